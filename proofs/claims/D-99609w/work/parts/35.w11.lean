/-! the law's plant and act, where nothing is thrown (written by gen/x6.py) -/
set_option maxRecDepth 100000
theorem wo_61 {g : Gh} {a : Nat} {r : Rec} (hW : OKW g) : (gE g 61 a r)[0]? = some (a, .inl (kap g 1, (gP r 0).getD 0, .inr (.inl (gL r 0)))) := by rw [we61 hW]; rfl
def x0_plant (G : Wd) (a : Nat) (x1 : Int32) (x2 : Int32) (x3 : Nat) : Option (Int32 × Wd) := RD G a 0 (fun s4 => BD2 (x1_plant G a x1 x2) (fun v6 w3 => MG G w3 (RD w3 x3 61 (fun s7 => IX (0 : Int32) ((gP s7 0).getD 0) (fun i8 => LT (sL s7 0 i8 (Int32.toInt64 v6)) (fun s9 => LT (wp w3 x3 61 s9) (fun w10 => some ((0 : Int32), w10))))))))
set_option maxHeartbeats 4000000 in
theorem x0_plant_ok {l : Launch} {g : Gh} (hW : OKW g) (hX1 : OKX1 g) (hX3 : OKX3 g) (hX4 : OKX4 g) {G : Wd} {a : Nat} {x1 : Int32} {x2 : Int32} {x3 : Nat} {r : Int32} {G' : Wd} (hf : x0_plant G a x1 x2 x3 = some (r, G')) : MHa l g yX0_plant cX0_plant 5 (some .int) [(0, 10, 13, 13)] 5 (G'.1 - G.1) (1200 * (G'.1 - G.1)) (a + 2) "ParlourLeaves$Fault" G [.ref a, .int x1, .int x2, .ref x3] (some (some (.int r))) G' := by
  refine vm_startH (by decide) (Nat.le_of_ble_eq_true rfl) ?_
  intro X hl hg hN hc hr htb hR hQ
  subst hl; subst hg
  have h := hf
  unfold x0_plant at h
  show VM X G G' G [(0, .ref a), (1, .int x1), (2, .int x2), (3, .ref x3)] [] 0
  refine vm_l (fun h9 => pv_aload_n 3 hc dX0_plant_0 rfl rfl h9) ?_
  refine vm_l (fun h9 => pv_iconst (0 : Int32) hc dX0_plant_1 rfl h9) ?_
  refine vm_l (fun h9 => pv_aload_n 0 hc dX0_plant_2 rfl rfl h9) ?_
  refine vm_l (fun h9 => pv_iload_n 1 hc dX0_plant_3 rfl rfl h9) ?_
  refine vm_l (fun h9 => pv_iload_n 2 hc dX0_plant_4 rfl rfl h9) ?_
  obtain ⟨s4, gs4, h⟩ := RD_el h
  obtain ⟨v6, w3, hf2, h⟩ := BD2_el h
  obtain ⟨hm5, h⟩ := MG_el h
  refine vm_call hR hm5 rfl rfl (fun hcap h9 => pv_callV (nA := 2) hc (x1_plant_ok hW hX1 hX3 hX4 hf2) gs4 (o_X1 hX1) (xk0 hX1) (lw_V q1502 q1503 q1504 q109 q1505) (by decide +kernel) ⟨(by decide), by decide⟩ rfl rfl (Nat.le_of_ble_eq_true rfl) dX0_plant_5 hcap h9) ?_
  refine vm_l (fun h9 => pv_i2l hc dX0_plant_8 h9) ?_
  obtain ⟨s7, gs7, h⟩ := RD_el h
  obtain ⟨i8, hi8, h⟩ := IX_el h
  obtain ⟨s9, hs9, h⟩ := LT_el h
  obtain ⟨w10, hw10, h⟩ := LT_el h
  refine vm_e hw10 rfl (fun h9 => pv_last hc gs7 (wo_61 hW) 1 (xt1 hX1) hi8 (r' := s9) (by subst hs9; rw [we61 hW, we61 hW]; rfl) dX0_plant_9 h9) ?_
  refine vm_l (fun h9 => pv_goto (tgt := 17) hc dX0_plant_10 (by decide) h9) ?_
  refine vm_l (fun h9 => pv_iconst (0 : Int32) hc dX0_plant_17 rfl h9) ?_
  obtain ⟨rfl, rfl⟩ := Prod.mk.inj (Option.some.inj h)
  exact fun _ => ⟨Nat.le_refl _, px_iret hc hr hQ rfl rfl dX0_plant_18⟩
def x0_act (G : Wd) (a : Nat) (x1 : Int32) (x2 : Int32) (x3 : Nat) : Option (Int32 × Wd) := RD G a 0 (fun s4 => BD2 (x1_act G a x1 x2) (fun v6 w3 => MG G w3 (RD w3 x3 61 (fun s7 => IX (0 : Int32) ((gP s7 0).getD 0) (fun i8 => LT (sL s7 0 i8 (Int32.toInt64 v6)) (fun s9 => LT (wp w3 x3 61 s9) (fun w10 => some ((0 : Int32), w10))))))))
set_option maxHeartbeats 4000000 in
theorem x0_act_ok {l : Launch} {g : Gh} (hW : OKW g) (hX1 : OKX1 g) (hX3 : OKX3 g) (hX4 : OKX4 g) {G : Wd} {a : Nat} {x1 : Int32} {x2 : Int32} {x3 : Nat} {r : Int32} {G' : Wd} (hf : x0_act G a x1 x2 x3 = some (r, G')) : MHa l g yX0_act cX0_act 5 (some .int) [(0, 10, 13, 13)] 6 (G'.1 - G.1) (1200 * (G'.1 - G.1)) (a + 2) "ParlourLeaves$Fault" G [.ref a, .int x1, .int x2, .ref x3] (some (some (.int r))) G' := by
  refine vm_startH (by decide) (Nat.le_of_ble_eq_true rfl) ?_
  intro X hl hg hN hc hr htb hR hQ
  subst hl; subst hg
  have h := hf
  unfold x0_act at h
  show VM X G G' G [(0, .ref a), (1, .int x1), (2, .int x2), (3, .ref x3)] [] 0
  refine vm_l (fun h9 => pv_aload_n 3 hc dX0_act_0 rfl rfl h9) ?_
  refine vm_l (fun h9 => pv_iconst (0 : Int32) hc dX0_act_1 rfl h9) ?_
  refine vm_l (fun h9 => pv_aload_n 0 hc dX0_act_2 rfl rfl h9) ?_
  refine vm_l (fun h9 => pv_iload_n 1 hc dX0_act_3 rfl rfl h9) ?_
  refine vm_l (fun h9 => pv_iload_n 2 hc dX0_act_4 rfl rfl h9) ?_
  obtain ⟨s4, gs4, h⟩ := RD_el h
  obtain ⟨v6, w3, hf2, h⟩ := BD2_el h
  obtain ⟨hm5, h⟩ := MG_el h
  refine vm_call hR hm5 rfl rfl (fun hcap h9 => pv_callV (nA := 2) hc (x1_act_ok hW hX1 hX3 hX4 hf2) gs4 (o_X1 hX1) (xk0 hX1) (lw_V q1539 q1540 q1541 q109 q1542) (by decide +kernel) ⟨(by decide), by decide⟩ rfl rfl (Nat.le_of_ble_eq_true rfl) dX0_act_5 hcap h9) ?_
  refine vm_l (fun h9 => pv_i2l hc dX0_act_8 h9) ?_
  obtain ⟨s7, gs7, h⟩ := RD_el h
  obtain ⟨i8, hi8, h⟩ := IX_el h
  obtain ⟨s9, hs9, h⟩ := LT_el h
  obtain ⟨w10, hw10, h⟩ := LT_el h
  refine vm_e hw10 rfl (fun h9 => pv_last hc gs7 (wo_61 hW) 1 (xt1 hX1) hi8 (r' := s9) (by subst hs9; rw [we61 hW, we61 hW]; rfl) dX0_act_9 h9) ?_
  refine vm_l (fun h9 => pv_goto (tgt := 17) hc dX0_act_10 (by decide) h9) ?_
  refine vm_l (fun h9 => pv_iconst (0 : Int32) hc dX0_act_17 rfl h9) ?_
  obtain ⟨rfl, rfl⟩ := Prod.mk.inj (Option.some.inj h)
  exact fun _ => ⟨Nat.le_refl _, px_iret hc hr hQ rfl rfl dX0_act_18⟩
