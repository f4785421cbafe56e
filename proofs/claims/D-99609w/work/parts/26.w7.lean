/-! plant, act: what they answer, when they throw (written by gen/x6.py) -/
set_option maxRecDepth 100000
def x1_plant (G : Wd) (a : Nat) (x1 : Int32) (x2 : Int32) : Option (Int32 × Wd) := RD G a 0 (fun s3 => BD (gP s3 6) (fun b4 => RD G b4 2 (fun s5 => BD (x1_isPlant s3 b4 s5 x1) (fun v6 => JN1 (fun (v7 : Int32) => NZ v7 ((if x2 = (0 : Int32) then RD G a 0 (fun s10 => RD G (a + 13) 3 (fun s11 => IX x1 6 (fun i12 => some ((gA s11 0 i12), G)))) else if x2 = (1 : Int32) then RD G a 0 (fun s14 => BD (gP s14 6) (fun b15 => RD G b15 2 (fun s16 => IX x1 6 (fun i17 => some ((gA s16 6 i17), G))))) else if x2 = (2 : Int32) then RD G a 0 (fun s19 => BD (gP s19 6) (fun b20 => RD G b20 2 (fun s21 => BD (x1_has (gI s21 11) x1) (fun v23 => (if v23 = 0 then some ((0 : Int32), G) else some ((1 : Int32), G)))))) else if x2 = (3 : Int32) then RD G a 0 (fun s25 => RD G (a + 13) 3 (fun s26 => IX x1 6 (fun i27 => some ((gA s26 1 i27), G)))) else if x2 = (4 : Int32) then RD G a 0 (fun s29 => BD (gP s29 6) (fun b30 => RD G (a + 13) 3 (fun s32 => RD G b30 2 (fun s33 => BD (x4_sees s32 s33 x1) (fun v34 => some (v34, G)))))) else if x2 = (5 : Int32) then RD G a 0 (fun s36 => RD G (a + 13) 3 (fun s38 => BD (x4_leaves s38 x1 (1 : Int32)) (fun v39 => some (v39, G)))) else if x2 = (6 : Int32) then RD G a 0 (fun s41 => RD G (a + 13) 3 (fun s43 => BD (x4_shown s43 x1) (fun v44 => some (v44, G)))) else RD G a 0 (fun s46 => RD G (a + 13) 3 (fun s48 => BD (x4_leaves s48 x1 (0 : Int32)) (fun v49 => some (v49, G))))))) (fun (j8 : Int32 → Option (Int32 × Wd)) => (if v6 = 0 then j8 (0 : Int32) else BD (x1_isIn x2 (0 : Int32) (7 : Int32)) (fun v51 => (if v51 = 0 then j8 (0 : Int32) else j8 (1 : Int32)))))))))
set_option maxHeartbeats 4000000 in
theorem x1_plant_ok {l : Launch} {g : Gh} (hW : OKW g) (hX1 : OKX1 g) (hX3 : OKX3 g) (hX4 : OKX4 g) {G : Wd} {a : Nat} {x1 : Int32} {x2 : Int32} {r : Int32} {G' : Wd} (hf : x1_plant G a x1 x2 = some (r, G')) : MTa l g yX1_plant cX1_plant 3 (some .int) 4 (G'.1 - G.1) (1200 * (G'.1 - G.1)) G [.ref a, .int x1, .int x2] (some (.int r)) G' := by
  refine vm_start (by decide) (Nat.le_of_ble_eq_true rfl) ?_
  intro X hl hg hN hc hr hni hR hQ
  subst hl; subst hg
  have h := hf
  unfold x1_plant at h
  show VM X G G' G [(0, .ref a), (1, .int x1), (2, .int x2)] [] 0
  refine vm_l (fun h9 => pv_aload_n 0 hc dX1_plant_0 rfl rfl h9) ?_
  refine vm_l (fun h9 => pv_iload_n 1 hc dX1_plant_1 rfl rfl h9) ?_
  obtain ⟨s3, gs3, h⟩ := RD_el h
  obtain ⟨b4, hb4, h⟩ := BD_el h
  obtain ⟨s5, gs5, h⟩ := RD_el h
  obtain ⟨v6, hf2, h⟩ := BD_el h
  refine vm_l (fun h9 => ca_X1_201 hc hX1 gs3 (x1_isPlant_ok hX1 hX3 gs3 gs5 hf2) (by decide) (Nat.le_of_ble_eq_true rfl) dX1_plant_2 h9) ?_
  obtain ⟨j8, hj8, h⟩ := JN1_el (P := fun v7 => VM X G G' G [(0, .ref a), (1, .int x1), (2, .int x2)] [.int v7] 23) h (by
      intro v7 h
      obtain ⟨hz9, h⟩ := NZ_el h
      refine vm_l (fun h9 hk9 hn9 => pv_callS (nA := 1) hc (x1_must_ok hz9) (lw_S q1506 q1507 q109 q1508) (by decide +kernel) ⟨(by decide), by decide⟩ rfl rfl (Nat.le_of_ble_eq_true rfl) dX1_plant_23 ⟨hk9, hn9⟩ h9 hk9 hn9) ?_
      refine vm_l (fun h9 => pv_iload_n 2 hc dX1_plant_26 rfl rfl h9) ?_
      refine vm_ifs h (fun h k1 k2 => pv_tsw (tgt := 68) (c := 0) (off := 41) hc dX1_plant_27 (by decide) (by decide) (by decide) (by decide) h k1 k2) (fun h => ?_) (fun hx13 h => ?_)
      · refine vm_l (fun h9 => pv_aload_n 0 hc dX1_plant_68 rfl rfl h9) ?_
        obtain ⟨s10, gs10, h⟩ := RD_el h
        refine vm_l (fun h9 => gf_X1_83 hc hX1 gs10 dX1_plant_69 h9) ?_
        obtain ⟨s11, gs11, h⟩ := RD_el h
        refine vm_l (fun h9 => gf_X1_209 hc hX4 gs11 dX1_plant_72 h9) ?_
        refine vm_l (fun h9 => pv_iload_n 1 hc dX1_plant_75 rfl rfl h9) ?_
        obtain ⟨i12, hi12, h⟩ := IX_el h
        refine vm_l (fun h9 => al_X4_0 hc hX4 gs11 hi12 dX1_plant_76 h9) ?_
        obtain ⟨rfl, rfl⟩ := Prod.mk.inj (Option.some.inj h)
        exact fun _ => ⟨Nat.le_refl _, pv_iret hc hr hQ rfl rfl dX1_plant_77⟩
      refine vm_ifs h (fun h k1 k2 => pv_tsw (tgt := 78) (c := 1) (off := 51) hc dX1_plant_27 (by decide) (by decide) (by decide) (by decide) h k1 k2) (fun h => ?_) (fun hx18 h => ?_)
      · refine vm_l (fun h9 => pv_aload_n 0 hc dX1_plant_78 rfl rfl h9) ?_
        obtain ⟨s14, gs14, h⟩ := RD_el h
        obtain ⟨b15, hb15, h⟩ := BD_el h
        refine vm_l (fun h9 => gp_X1_76 hc hX1 gs14 hb15 dX1_plant_79 h9) ?_
        obtain ⟨s16, gs16, h⟩ := RD_el h
        refine vm_l (fun h9 => gf_X1_211 hc hX3 gs16 dX1_plant_82 h9) ?_
        refine vm_l (fun h9 => pv_iload_n 1 hc dX1_plant_85 rfl rfl h9) ?_
        obtain ⟨i17, hi17, h⟩ := IX_el h
        refine vm_l (fun h9 => al_X3_6 hc hX3 gs16 hi17 dX1_plant_86 h9) ?_
        obtain ⟨rfl, rfl⟩ := Prod.mk.inj (Option.some.inj h)
        exact fun _ => ⟨Nat.le_refl _, pv_iret hc hr hQ rfl rfl dX1_plant_87⟩
      refine vm_ifs h (fun h k1 k2 => pv_tsw (tgt := 88) (c := 2) (off := 61) hc dX1_plant_27 (by decide) (by decide) (by decide) (by decide) h k1 k2) (fun h => ?_) (fun hx24 h => ?_)
      · refine vm_l (fun h9 => pv_aload_n 0 hc dX1_plant_88 rfl rfl h9) ?_
        obtain ⟨s19, gs19, h⟩ := RD_el h
        obtain ⟨b20, hb20, h⟩ := BD_el h
        refine vm_l (fun h9 => gp_X1_76 hc hX1 gs19 hb20 dX1_plant_89 h9) ?_
        obtain ⟨s21, gs21, h⟩ := RD_el h
        refine vm_l (fun h9 => gf_X1_214 hc hX3 gs21 dX1_plant_92 h9) ?_
        refine vm_l (fun h9 => pv_iload_n 1 hc dX1_plant_95 rfl rfl h9) ?_
        obtain ⟨v23, hf22, h⟩ := BD_el h
        refine vm_l (fun h9 hk9 hn9 => pv_callS (nA := 2) hc (x1_has_ok   hf22) (lw_S q1001 q763 q109 q764) (by decide +kernel) ⟨(by decide), by decide⟩ rfl rfl (Nat.le_of_ble_eq_true rfl) dX1_plant_96 ⟨hk9, hn9⟩ h9 hk9 hn9) ?_
        refine vm_if h (fun h k1 k2 => pv_if_eq (tgt := 106) hc dX1_plant_99 (by decide) h k1 k2) (fun h => ?_) (fun h => ?_)
        · refine vm_l (fun h9 => pv_iconst (0 : Int32) hc dX1_plant_106 rfl h9) ?_
          obtain ⟨rfl, rfl⟩ := Prod.mk.inj (Option.some.inj h)
          exact fun _ => ⟨Nat.le_refl _, pv_iret hc hr hQ rfl rfl dX1_plant_107⟩
        · refine vm_l (fun h9 => pv_iconst (1 : Int32) hc dX1_plant_102 rfl h9) ?_
          refine vm_l (fun h9 => pv_goto (tgt := 107) hc dX1_plant_103 (by decide) h9) ?_
          obtain ⟨rfl, rfl⟩ := Prod.mk.inj (Option.some.inj h)
          exact fun _ => ⟨Nat.le_refl _, pv_iret hc hr hQ rfl rfl dX1_plant_107⟩
      refine vm_ifs h (fun h k1 k2 => pv_tsw (tgt := 108) (c := 3) (off := 81) hc dX1_plant_27 (by decide) (by decide) (by decide) (by decide) h k1 k2) (fun h => ?_) (fun hx28 h => ?_)
      · refine vm_l (fun h9 => pv_aload_n 0 hc dX1_plant_108 rfl rfl h9) ?_
        obtain ⟨s25, gs25, h⟩ := RD_el h
        refine vm_l (fun h9 => gf_X1_83 hc hX1 gs25 dX1_plant_109 h9) ?_
        obtain ⟨s26, gs26, h⟩ := RD_el h
        refine vm_l (fun h9 => gf_X1_221 hc hX4 gs26 dX1_plant_112 h9) ?_
        refine vm_l (fun h9 => pv_iload_n 1 hc dX1_plant_115 rfl rfl h9) ?_
        obtain ⟨i27, hi27, h⟩ := IX_el h
        refine vm_l (fun h9 => al_X4_1 hc hX4 gs26 hi27 dX1_plant_116 h9) ?_
        obtain ⟨rfl, rfl⟩ := Prod.mk.inj (Option.some.inj h)
        exact fun _ => ⟨Nat.le_refl _, pv_iret hc hr hQ rfl rfl dX1_plant_117⟩
      refine vm_ifs h (fun h k1 k2 => pv_tsw (tgt := 118) (c := 4) (off := 91) hc dX1_plant_27 (by decide) (by decide) (by decide) (by decide) h k1 k2) (fun h => ?_) (fun hx35 h => ?_)
      · refine vm_l (fun h9 => pv_aload_n 0 hc dX1_plant_118 rfl rfl h9) ?_
        obtain ⟨s29, gs29, h⟩ := RD_el h
        refine vm_l (fun h9 => gf_X1_83 hc hX1 gs29 dX1_plant_119 h9) ?_
        refine vm_l (fun h9 => pv_aload_n 0 hc dX1_plant_122 rfl rfl h9) ?_
        obtain ⟨b30, hb30, h⟩ := BD_el h
        refine vm_l (fun h9 => gp_X1_76 hc hX1 gs29 hb30 dX1_plant_123 h9) ?_
        refine vm_l (fun h9 => pv_iload_n 1 hc dX1_plant_126 rfl rfl h9) ?_
        obtain ⟨s32, gs32, h⟩ := RD_el h
        obtain ⟨s33, gs33, h⟩ := RD_el h
        obtain ⟨v34, hf31, h⟩ := BD_el h
        refine vm_l (fun h9 hk9 hn9 => pv_callV (nA := 2) hc (x4_sees_ok hX3 hX4 gs32 gs33 hf31) gs32 (h_X4 hX4) hX4.1 (lw_V q871 q872 q873 q114 q874) (by decide +kernel) ⟨(by decide), by decide⟩ rfl rfl (Nat.le_of_ble_eq_true rfl) dX1_plant_127 ⟨hk9, hn9⟩ h9 hk9 hn9) ?_
        obtain ⟨rfl, rfl⟩ := Prod.mk.inj (Option.some.inj h)
        exact fun _ => ⟨Nat.le_refl _, pv_iret hc hr hQ rfl rfl dX1_plant_130⟩
      refine vm_ifs h (fun h k1 k2 => pv_tsw (tgt := 131) (c := 5) (off := 104) hc dX1_plant_27 (by decide) (by decide) (by decide) (by decide) h k1 k2) (fun h => ?_) (fun hx40 h => ?_)
      · refine vm_l (fun h9 => pv_aload_n 0 hc dX1_plant_131 rfl rfl h9) ?_
        obtain ⟨s36, gs36, h⟩ := RD_el h
        refine vm_l (fun h9 => gf_X1_83 hc hX1 gs36 dX1_plant_132 h9) ?_
        refine vm_l (fun h9 => pv_iload_n 1 hc dX1_plant_135 rfl rfl h9) ?_
        refine vm_l (fun h9 => pv_iconst (1 : Int32) hc dX1_plant_136 rfl h9) ?_
        obtain ⟨s38, gs38, h⟩ := RD_el h
        obtain ⟨v39, hf37, h⟩ := BD_el h
        refine vm_l (fun h9 hk9 hn9 => pv_callV (nA := 2) hc (x4_leaves_ok hX4 gs38 hf37) gs38 (h_X4 hX4) hX4.1 (lw_V q881 q882 q883 q114 q884) (by decide +kernel) ⟨(by decide), by decide⟩ rfl rfl (Nat.le_of_ble_eq_true rfl) dX1_plant_137 ⟨hk9, hn9⟩ h9 hk9 hn9) ?_
        obtain ⟨rfl, rfl⟩ := Prod.mk.inj (Option.some.inj h)
        exact fun _ => ⟨Nat.le_refl _, pv_iret hc hr hQ rfl rfl dX1_plant_140⟩
      refine vm_ifs h (fun h k1 k2 => pv_tsw (tgt := 141) (c := 6) (off := 114) hc dX1_plant_27 (by decide) (by decide) (by decide) (by decide) h k1 k2) (fun h => ?_) (fun hx45 h => ?_)
      · refine vm_l (fun h9 => pv_aload_n 0 hc dX1_plant_141 rfl rfl h9) ?_
        obtain ⟨s41, gs41, h⟩ := RD_el h
        refine vm_l (fun h9 => gf_X1_83 hc hX1 gs41 dX1_plant_142 h9) ?_
        refine vm_l (fun h9 => pv_iload_n 1 hc dX1_plant_145 rfl rfl h9) ?_
        obtain ⟨s43, gs43, h⟩ := RD_el h
        obtain ⟨v44, hf42, h⟩ := BD_el h
        refine vm_l (fun h9 hk9 hn9 => pv_callV (nA := 1) hc (x4_shown_ok hX4 gs43 hf42) gs43 (h_X4 hX4) hX4.1 (lw_V q1532 q1533 q1534 q114 q1535) (by decide +kernel) ⟨(by decide), by decide⟩ rfl rfl (Nat.le_of_ble_eq_true rfl) dX1_plant_146 ⟨hk9, hn9⟩ h9 hk9 hn9) ?_
        obtain ⟨rfl, rfl⟩ := Prod.mk.inj (Option.some.inj h)
        exact fun _ => ⟨Nat.le_refl _, pv_iret hc hr hQ rfl rfl dX1_plant_149⟩
      refine vm_l (fun h9 => pv_tableOut (tgt := 150) hc dX1_plant_27 (tsw_out 0 [0, 1, 2, 3, 4, 5, 6] (ne_c hx13 (ne_c hx18 (ne_c hx24 (ne_c hx28 (ne_c hx35 (ne_c hx40 (ne_c hx45 ne_n))))))) 6 (by decide)) (by decide) h9) ?_
      refine vm_l (fun h9 => pv_aload_n 0 hc dX1_plant_150 rfl rfl h9) ?_
      obtain ⟨s46, gs46, h⟩ := RD_el h
      refine vm_l (fun h9 => gf_X1_83 hc hX1 gs46 dX1_plant_151 h9) ?_
      refine vm_l (fun h9 => pv_iload_n 1 hc dX1_plant_154 rfl rfl h9) ?_
      refine vm_l (fun h9 => pv_iconst (0 : Int32) hc dX1_plant_155 rfl h9) ?_
      obtain ⟨s48, gs48, h⟩ := RD_el h
      obtain ⟨v49, hf47, h⟩ := BD_el h
      refine vm_l (fun h9 hk9 hn9 => pv_callV (nA := 2) hc (x4_leaves_ok hX4 gs48 hf47) gs48 (h_X4 hX4) hX4.1 (lw_V q881 q882 q883 q114 q884) (by decide +kernel) ⟨(by decide), by decide⟩ rfl rfl (Nat.le_of_ble_eq_true rfl) dX1_plant_156 ⟨hk9, hn9⟩ h9 hk9 hn9) ?_
      obtain ⟨rfl, rfl⟩ := Prod.mk.inj (Option.some.inj h)
      exact fun _ => ⟨Nat.le_refl _, pv_iret hc hr hQ rfl rfl dX1_plant_159⟩)
  refine vm_if h (fun h k1 k2 => pv_if_eq (tgt := 22) hc dX1_plant_5 (by decide) h k1 k2) (fun h => ?_) (fun h => ?_)
  · refine vm_l (fun h9 => pv_iconst (0 : Int32) hc dX1_plant_22 rfl h9) ?_
    exact hj8 _ h
  · refine vm_l (fun h9 => pv_iload_n 2 hc dX1_plant_8 rfl rfl h9) ?_
    refine vm_l (fun h9 => pv_iconst (0 : Int32) hc dX1_plant_9 rfl h9) ?_
    refine vm_l (fun h9 => pv_bipush (7 : Int32) hc dX1_plant_10 rfl h9) ?_
    obtain ⟨v51, hf50, h⟩ := BD_el h
    refine vm_l (fun h9 hk9 hn9 => pv_callS (nA := 3) hc (x1_isIn_ok   hf50) (lw_S q850 q678 q109 q679) (by decide +kernel) ⟨(by decide), by decide⟩ rfl rfl (Nat.le_of_ble_eq_true rfl) dX1_plant_12 ⟨hk9, hn9⟩ h9 hk9 hn9) ?_
    refine vm_if h (fun h k1 k2 => pv_if_eq (tgt := 22) hc dX1_plant_15 (by decide) h k1 k2) (fun h => ?_) (fun h => ?_)
    · refine vm_l (fun h9 => pv_iconst (0 : Int32) hc dX1_plant_22 rfl h9) ?_
      exact hj8 _ h
    · refine vm_l (fun h9 => pv_iconst (1 : Int32) hc dX1_plant_18 rfl h9) ?_
      refine vm_l (fun h9 => pv_goto (tgt := 23) hc dX1_plant_19 (by decide) h9) ?_
      exact hj8 _ h
def x1_act (G : Wd) (a : Nat) (x1 : Int32) (x2 : Int32) : Option (Int32 × Wd) := RD G a 0 (fun s3 => RD G (a + 13) 3 (fun s4 => BD (x1_isAct s3 s4 x1) (fun v5 => JN1 (fun (v6 : Int32) => NZ v6 ((if x2 = (0 : Int32) then RD G a 0 (fun s9 => RD G (a + 13) 3 (fun s10 => IX x1 12 (fun i11 => some ((gA s10 2 i11), G)))) else if x2 = (1 : Int32) then RD G a 0 (fun s13 => RD G (a + 13) 3 (fun s14 => IX x1 12 (fun i15 => some ((gA s14 3 i15), G)))) else if x2 = (2 : Int32) then RD G a 0 (fun s17 => RD G (a + 13) 3 (fun s18 => IX x1 12 (fun i19 => some ((gA s18 4 i19), G)))) else if x2 = (3 : Int32) then RD G a 0 (fun s21 => RD G (a + 13) 3 (fun s22 => IX x1 12 (fun i23 => some ((gA s22 5 i23), G)))) else if x2 = (4 : Int32) then RD G a 0 (fun s25 => BD (gP s25 6) (fun b26 => RD G (a + 13) 3 (fun s28 => RD G b26 2 (fun s29 => BD (x4_witnesses s28 s29 x1 (1 : Int32)) (fun v30 => some (v30, G)))))) else if x2 = (5 : Int32) then RD G a 0 (fun s32 => BD (gP s32 6) (fun b33 => RD G (a + 13) 3 (fun s35 => RD G b33 2 (fun s36 => BD (x4_witnesses s35 s36 x1 (0 : Int32)) (fun v37 => some (v37, G)))))) else RD G a 0 (fun s39 => BD (gP s39 6) (fun b40 => RD G (a + 13) 3 (fun s42 => RD G b40 2 (fun s43 => BD (x4_isProved s42 s43 x1) (fun v44 => (if v44 = 0 then some ((0 : Int32), G) else some ((1 : Int32), G)))))))))) (fun (j7 : Int32 → Option (Int32 × Wd)) => (if v5 = 0 then j7 (0 : Int32) else BD (x1_isIn x2 (0 : Int32) (6 : Int32)) (fun v46 => (if v46 = 0 then j7 (0 : Int32) else j7 (1 : Int32))))))))
set_option maxHeartbeats 4000000 in
theorem x1_act_ok {l : Launch} {g : Gh} (hW : OKW g) (hX1 : OKX1 g) (hX3 : OKX3 g) (hX4 : OKX4 g) {G : Wd} {a : Nat} {x1 : Int32} {x2 : Int32} {r : Int32} {G' : Wd} (hf : x1_act G a x1 x2 = some (r, G')) : MTa l g yX1_act cX1_act 3 (some .int) 5 (G'.1 - G.1) (1200 * (G'.1 - G.1)) G [.ref a, .int x1, .int x2] (some (.int r)) G' := by
  refine vm_start (by decide) (Nat.le_of_ble_eq_true rfl) ?_
  intro X hl hg hN hc hr hni hR hQ
  subst hl; subst hg
  have h := hf
  unfold x1_act at h
  show VM X G G' G [(0, .ref a), (1, .int x1), (2, .int x2)] [] 0
  refine vm_l (fun h9 => pv_aload_n 0 hc dX1_act_0 rfl rfl h9) ?_
  refine vm_l (fun h9 => pv_iload_n 1 hc dX1_act_1 rfl rfl h9) ?_
  obtain ⟨s3, gs3, h⟩ := RD_el h
  obtain ⟨s4, gs4, h⟩ := RD_el h
  obtain ⟨v5, hf2, h⟩ := BD_el h
  refine vm_l (fun h9 => ca_X1_233 hc hX1 gs3 (x1_isAct_ok hX1 hX4 gs3 gs4 hf2) (by decide) (Nat.le_of_ble_eq_true rfl) dX1_act_2 h9) ?_
  obtain ⟨j7, hj7, h⟩ := JN1_el (P := fun v6 => VM X G G' G [(0, .ref a), (1, .int x1), (2, .int x2)] [.int v6] 23) h (by
      intro v6 h
      obtain ⟨hz8, h⟩ := NZ_el h
      refine vm_l (fun h9 hk9 hn9 => pv_callS (nA := 1) hc (x1_must_ok hz8) (lw_S q1506 q1507 q109 q1508) (by decide +kernel) ⟨(by decide), by decide⟩ rfl rfl (Nat.le_of_ble_eq_true rfl) dX1_act_23 ⟨hk9, hn9⟩ h9 hk9 hn9) ?_
      refine vm_l (fun h9 => pv_iload_n 2 hc dX1_act_26 rfl rfl h9) ?_
      refine vm_ifs h (fun h k1 k2 => pv_tsw (tgt := 64) (c := 0) (off := 37) hc dX1_act_27 (by decide) (by decide) (by decide) (by decide) h k1 k2) (fun h => ?_) (fun hx12 h => ?_)
      · refine vm_l (fun h9 => pv_aload_n 0 hc dX1_act_64 rfl rfl h9) ?_
        obtain ⟨s9, gs9, h⟩ := RD_el h
        refine vm_l (fun h9 => gf_X1_83 hc hX1 gs9 dX1_act_65 h9) ?_
        obtain ⟨s10, gs10, h⟩ := RD_el h
        refine vm_l (fun h9 => gf_X1_236 hc hX4 gs10 dX1_act_68 h9) ?_
        refine vm_l (fun h9 => pv_iload_n 1 hc dX1_act_71 rfl rfl h9) ?_
        obtain ⟨i11, hi11, h⟩ := IX_el h
        refine vm_l (fun h9 => al_X4_2 hc hX4 gs10 hi11 dX1_act_72 h9) ?_
        obtain ⟨rfl, rfl⟩ := Prod.mk.inj (Option.some.inj h)
        exact fun _ => ⟨Nat.le_refl _, pv_iret hc hr hQ rfl rfl dX1_act_73⟩
      refine vm_ifs h (fun h k1 k2 => pv_tsw (tgt := 74) (c := 1) (off := 47) hc dX1_act_27 (by decide) (by decide) (by decide) (by decide) h k1 k2) (fun h => ?_) (fun hx16 h => ?_)
      · refine vm_l (fun h9 => pv_aload_n 0 hc dX1_act_74 rfl rfl h9) ?_
        obtain ⟨s13, gs13, h⟩ := RD_el h
        refine vm_l (fun h9 => gf_X1_83 hc hX1 gs13 dX1_act_75 h9) ?_
        obtain ⟨s14, gs14, h⟩ := RD_el h
        refine vm_l (fun h9 => gf_X1_239 hc hX4 gs14 dX1_act_78 h9) ?_
        refine vm_l (fun h9 => pv_iload_n 1 hc dX1_act_81 rfl rfl h9) ?_
        obtain ⟨i15, hi15, h⟩ := IX_el h
        refine vm_l (fun h9 => al_X4_3 hc hX4 gs14 hi15 dX1_act_82 h9) ?_
        obtain ⟨rfl, rfl⟩ := Prod.mk.inj (Option.some.inj h)
        exact fun _ => ⟨Nat.le_refl _, pv_iret hc hr hQ rfl rfl dX1_act_83⟩
      refine vm_ifs h (fun h k1 k2 => pv_tsw (tgt := 84) (c := 2) (off := 57) hc dX1_act_27 (by decide) (by decide) (by decide) (by decide) h k1 k2) (fun h => ?_) (fun hx20 h => ?_)
      · refine vm_l (fun h9 => pv_aload_n 0 hc dX1_act_84 rfl rfl h9) ?_
        obtain ⟨s17, gs17, h⟩ := RD_el h
        refine vm_l (fun h9 => gf_X1_83 hc hX1 gs17 dX1_act_85 h9) ?_
        obtain ⟨s18, gs18, h⟩ := RD_el h
        refine vm_l (fun h9 => gf_X1_242 hc hX4 gs18 dX1_act_88 h9) ?_
        refine vm_l (fun h9 => pv_iload_n 1 hc dX1_act_91 rfl rfl h9) ?_
        obtain ⟨i19, hi19, h⟩ := IX_el h
        refine vm_l (fun h9 => al_X4_4 hc hX4 gs18 hi19 dX1_act_92 h9) ?_
        obtain ⟨rfl, rfl⟩ := Prod.mk.inj (Option.some.inj h)
        exact fun _ => ⟨Nat.le_refl _, pv_iret hc hr hQ rfl rfl dX1_act_93⟩
      refine vm_ifs h (fun h k1 k2 => pv_tsw (tgt := 94) (c := 3) (off := 67) hc dX1_act_27 (by decide) (by decide) (by decide) (by decide) h k1 k2) (fun h => ?_) (fun hx24 h => ?_)
      · refine vm_l (fun h9 => pv_aload_n 0 hc dX1_act_94 rfl rfl h9) ?_
        obtain ⟨s21, gs21, h⟩ := RD_el h
        refine vm_l (fun h9 => gf_X1_83 hc hX1 gs21 dX1_act_95 h9) ?_
        obtain ⟨s22, gs22, h⟩ := RD_el h
        refine vm_l (fun h9 => gf_X1_245 hc hX4 gs22 dX1_act_98 h9) ?_
        refine vm_l (fun h9 => pv_iload_n 1 hc dX1_act_101 rfl rfl h9) ?_
        obtain ⟨i23, hi23, h⟩ := IX_el h
        refine vm_l (fun h9 => al_X4_5 hc hX4 gs22 hi23 dX1_act_102 h9) ?_
        obtain ⟨rfl, rfl⟩ := Prod.mk.inj (Option.some.inj h)
        exact fun _ => ⟨Nat.le_refl _, pv_iret hc hr hQ rfl rfl dX1_act_103⟩
      refine vm_ifs h (fun h k1 k2 => pv_tsw (tgt := 104) (c := 4) (off := 77) hc dX1_act_27 (by decide) (by decide) (by decide) (by decide) h k1 k2) (fun h => ?_) (fun hx31 h => ?_)
      · refine vm_l (fun h9 => pv_aload_n 0 hc dX1_act_104 rfl rfl h9) ?_
        obtain ⟨s25, gs25, h⟩ := RD_el h
        refine vm_l (fun h9 => gf_X1_83 hc hX1 gs25 dX1_act_105 h9) ?_
        refine vm_l (fun h9 => pv_aload_n 0 hc dX1_act_108 rfl rfl h9) ?_
        obtain ⟨b26, hb26, h⟩ := BD_el h
        refine vm_l (fun h9 => gp_X1_76 hc hX1 gs25 hb26 dX1_act_109 h9) ?_
        refine vm_l (fun h9 => pv_iload_n 1 hc dX1_act_112 rfl rfl h9) ?_
        refine vm_l (fun h9 => pv_iconst (1 : Int32) hc dX1_act_113 rfl h9) ?_
        obtain ⟨s28, gs28, h⟩ := RD_el h
        obtain ⟨s29, gs29, h⟩ := RD_el h
        obtain ⟨v30, hf27, h⟩ := BD_el h
        refine vm_l (fun h9 hk9 hn9 => pv_callV (nA := 3) hc (x4_witnesses_ok hX3 hX4 gs28 gs29 hf27) gs28 (h_X4 hX4) hX4.1 (lw_V q1543 q899 q900 q114 q901) (by decide +kernel) ⟨(by decide), by decide⟩ rfl rfl (Nat.le_of_ble_eq_true rfl) dX1_act_114 ⟨hk9, hn9⟩ h9 hk9 hn9) ?_
        obtain ⟨rfl, rfl⟩ := Prod.mk.inj (Option.some.inj h)
        exact fun _ => ⟨Nat.le_refl _, pv_iret hc hr hQ rfl rfl dX1_act_117⟩
      refine vm_ifs h (fun h k1 k2 => pv_tsw (tgt := 118) (c := 5) (off := 91) hc dX1_act_27 (by decide) (by decide) (by decide) (by decide) h k1 k2) (fun h => ?_) (fun hx38 h => ?_)
      · refine vm_l (fun h9 => pv_aload_n 0 hc dX1_act_118 rfl rfl h9) ?_
        obtain ⟨s32, gs32, h⟩ := RD_el h
        refine vm_l (fun h9 => gf_X1_83 hc hX1 gs32 dX1_act_119 h9) ?_
        refine vm_l (fun h9 => pv_aload_n 0 hc dX1_act_122 rfl rfl h9) ?_
        obtain ⟨b33, hb33, h⟩ := BD_el h
        refine vm_l (fun h9 => gp_X1_76 hc hX1 gs32 hb33 dX1_act_123 h9) ?_
        refine vm_l (fun h9 => pv_iload_n 1 hc dX1_act_126 rfl rfl h9) ?_
        refine vm_l (fun h9 => pv_iconst (0 : Int32) hc dX1_act_127 rfl h9) ?_
        obtain ⟨s35, gs35, h⟩ := RD_el h
        obtain ⟨s36, gs36, h⟩ := RD_el h
        obtain ⟨v37, hf34, h⟩ := BD_el h
        refine vm_l (fun h9 hk9 hn9 => pv_callV (nA := 3) hc (x4_witnesses_ok hX3 hX4 gs35 gs36 hf34) gs35 (h_X4 hX4) hX4.1 (lw_V q1543 q899 q900 q114 q901) (by decide +kernel) ⟨(by decide), by decide⟩ rfl rfl (Nat.le_of_ble_eq_true rfl) dX1_act_128 ⟨hk9, hn9⟩ h9 hk9 hn9) ?_
        obtain ⟨rfl, rfl⟩ := Prod.mk.inj (Option.some.inj h)
        exact fun _ => ⟨Nat.le_refl _, pv_iret hc hr hQ rfl rfl dX1_act_131⟩
      refine vm_l (fun h9 => pv_tableOut (tgt := 132) hc dX1_act_27 (tsw_out 0 [0, 1, 2, 3, 4, 5] (ne_c hx12 (ne_c hx16 (ne_c hx20 (ne_c hx24 (ne_c hx31 (ne_c hx38 ne_n)))))) 5 (by decide)) (by decide) h9) ?_
      refine vm_l (fun h9 => pv_aload_n 0 hc dX1_act_132 rfl rfl h9) ?_
      obtain ⟨s39, gs39, h⟩ := RD_el h
      refine vm_l (fun h9 => gf_X1_83 hc hX1 gs39 dX1_act_133 h9) ?_
      refine vm_l (fun h9 => pv_aload_n 0 hc dX1_act_136 rfl rfl h9) ?_
      obtain ⟨b40, hb40, h⟩ := BD_el h
      refine vm_l (fun h9 => gp_X1_76 hc hX1 gs39 hb40 dX1_act_137 h9) ?_
      refine vm_l (fun h9 => pv_iload_n 1 hc dX1_act_140 rfl rfl h9) ?_
      obtain ⟨s42, gs42, h⟩ := RD_el h
      obtain ⟨s43, gs43, h⟩ := RD_el h
      obtain ⟨v44, hf41, h⟩ := BD_el h
      refine vm_l (fun h9 hk9 hn9 => pv_callV (nA := 2) hc (x4_isProved_ok hX3 hX4 gs42 gs43 hf41) gs42 (h_X4 hX4) hX4.1 (lw_V q988 q895 q896 q114 q897) (by decide +kernel) ⟨(by decide), by decide⟩ rfl rfl (Nat.le_of_ble_eq_true rfl) dX1_act_141 ⟨hk9, hn9⟩ h9 hk9 hn9) ?_
      refine vm_if h (fun h k1 k2 => pv_if_eq (tgt := 151) hc dX1_act_144 (by decide) h k1 k2) (fun h => ?_) (fun h => ?_)
      · refine vm_l (fun h9 => pv_iconst (0 : Int32) hc dX1_act_151 rfl h9) ?_
        obtain ⟨rfl, rfl⟩ := Prod.mk.inj (Option.some.inj h)
        exact fun _ => ⟨Nat.le_refl _, pv_iret hc hr hQ rfl rfl dX1_act_152⟩
      · refine vm_l (fun h9 => pv_iconst (1 : Int32) hc dX1_act_147 rfl h9) ?_
        refine vm_l (fun h9 => pv_goto (tgt := 152) hc dX1_act_148 (by decide) h9) ?_
        obtain ⟨rfl, rfl⟩ := Prod.mk.inj (Option.some.inj h)
        exact fun _ => ⟨Nat.le_refl _, pv_iret hc hr hQ rfl rfl dX1_act_152⟩)
  refine vm_if h (fun h k1 k2 => pv_if_eq (tgt := 22) hc dX1_act_5 (by decide) h k1 k2) (fun h => ?_) (fun h => ?_)
  · refine vm_l (fun h9 => pv_iconst (0 : Int32) hc dX1_act_22 rfl h9) ?_
    exact hj7 _ h
  · refine vm_l (fun h9 => pv_iload_n 2 hc dX1_act_8 rfl rfl h9) ?_
    refine vm_l (fun h9 => pv_iconst (0 : Int32) hc dX1_act_9 rfl h9) ?_
    refine vm_l (fun h9 => pv_bipush (6 : Int32) hc dX1_act_10 rfl h9) ?_
    obtain ⟨v46, hf45, h⟩ := BD_el h
    refine vm_l (fun h9 hk9 hn9 => pv_callS (nA := 3) hc (x1_isIn_ok   hf45) (lw_S q850 q678 q109 q679) (by decide +kernel) ⟨(by decide), by decide⟩ rfl rfl (Nat.le_of_ble_eq_true rfl) dX1_act_12 ⟨hk9, hn9⟩ h9 hk9 hn9) ?_
    refine vm_if h (fun h k1 k2 => pv_if_eq (tgt := 22) hc dX1_act_15 (by decide) h k1 k2) (fun h => ?_) (fun h => ?_)
    · refine vm_l (fun h9 => pv_iconst (0 : Int32) hc dX1_act_22 rfl h9) ?_
      exact hj7 _ h
    · refine vm_l (fun h9 => pv_iconst (1 : Int32) hc dX1_act_18 rfl h9) ?_
      refine vm_l (fun h9 => pv_goto (tgt := 23) hc dX1_act_19 (by decide) h9) ?_
      exact hj7 _ h
def x1_plantT (G : Wd) (a : Nat) (x1 : Int32) (x2 : Int32) : Option Unit := RD G a 0 (fun s3 => BD (gP s3 6) (fun b4 => RD G b4 2 (fun s5 => BD (x1_isPlant s3 b4 s5 x1) (fun v6 => JN1 (fun (v7 : Int32) => (if v7 = 0 then some () else none)) (fun (j8 : Int32 → Option Unit) => (if v6 = 0 then j8 (0 : Int32) else BD (x1_isIn x2 (0 : Int32) (7 : Int32)) (fun v10 => (if v10 = 0 then j8 (0 : Int32) else j8 (1 : Int32)))))))))
set_option maxHeartbeats 4000000 in
theorem x1_plantT_ok {l : Launch} {g : Gh} (hW : OKW g) (hX1 : OKX1 g) (hX3 : OKX3 g) (hX4 : OKX4 g) {G : Wd} {a : Nat} {x1 : Int32} {x2 : Int32} (hlt : l.stackTraces = false) (hZ : OKZ g) (hf : x1_plantT G a x1 x2 = some ()) : MNt l g yX1_plant cX1_plant 3 (some .int) 7 G [.ref a, .int x1, .int x2] := by
  refine vm_startT (by decide) (Nat.le_of_ble_eq_true rfl) ?_
  intro X hl hg hN hc htb hC hD hQ
  subst hl; subst hg
  have h := hf
  unfold x1_plantT at h
  show VM X G G G [(0, .ref a), (1, .int x1), (2, .int x2)] [] 0
  refine vm_l (fun h9 => pv_aload_n 0 hc dX1_plant_0 rfl rfl h9) ?_
  refine vm_l (fun h9 => pv_iload_n 1 hc dX1_plant_1 rfl rfl h9) ?_
  obtain ⟨s3, gs3, h⟩ := RD_el h
  obtain ⟨b4, hb4, h⟩ := BD_el h
  obtain ⟨s5, gs5, h⟩ := RD_el h
  obtain ⟨v6, hf2, h⟩ := BD_el h
  refine vm_l (fun h9 => ca_X1_201 hc hX1 gs3 (x1_isPlant_ok hX1 hX3 gs3 gs5 hf2) (by decide) (Nat.le_of_ble_eq_true rfl) dX1_plant_2 h9) ?_
  obtain ⟨j8, hj8, h⟩ := JN1_el (P := fun v7 => VM X G G G [(0, .ref a), (1, .int x1), (2, .int x2)] [.int v7] 23) h (by
      intro v7 h
      have hx : v7 = 0 := by by_cases hz : v7 = 0; exact hz; rw [if_neg hz] at h; cases h
      exact nt_must hx hc htb hlt hZ hW hC hD (by decide) hQ dX1_plant_23)
  refine vm_if h (fun h k1 k2 => pv_if_eq (tgt := 22) hc dX1_plant_5 (by decide) h k1 k2) (fun h => ?_) (fun h => ?_)
  · refine vm_l (fun h9 => pv_iconst (0 : Int32) hc dX1_plant_22 rfl h9) ?_
    exact hj8 _ h
  · refine vm_l (fun h9 => pv_iload_n 2 hc dX1_plant_8 rfl rfl h9) ?_
    refine vm_l (fun h9 => pv_iconst (0 : Int32) hc dX1_plant_9 rfl h9) ?_
    refine vm_l (fun h9 => pv_bipush (7 : Int32) hc dX1_plant_10 rfl h9) ?_
    obtain ⟨v10, hf9, h⟩ := BD_el h
    refine vm_l (fun h9 hk9 hn9 => pv_callS (nA := 3) hc (x1_isIn_ok   hf9) (lw_S q850 q678 q109 q679) (by decide +kernel) ⟨(by decide), by decide⟩ rfl rfl (Nat.le_of_ble_eq_true rfl) dX1_plant_12 ⟨hk9, hn9⟩ h9 hk9 hn9) ?_
    refine vm_if h (fun h k1 k2 => pv_if_eq (tgt := 22) hc dX1_plant_15 (by decide) h k1 k2) (fun h => ?_) (fun h => ?_)
    · refine vm_l (fun h9 => pv_iconst (0 : Int32) hc dX1_plant_22 rfl h9) ?_
      exact hj8 _ h
    · refine vm_l (fun h9 => pv_iconst (1 : Int32) hc dX1_plant_18 rfl h9) ?_
      refine vm_l (fun h9 => pv_goto (tgt := 23) hc dX1_plant_19 (by decide) h9) ?_
      exact hj8 _ h
def x1_actT (G : Wd) (a : Nat) (x1 : Int32) (x2 : Int32) : Option Unit := RD G a 0 (fun s3 => RD G (a + 13) 3 (fun s4 => BD (x1_isAct s3 s4 x1) (fun v5 => JN1 (fun (v6 : Int32) => (if v6 = 0 then some () else none)) (fun (j7 : Int32 → Option Unit) => (if v5 = 0 then j7 (0 : Int32) else BD (x1_isIn x2 (0 : Int32) (6 : Int32)) (fun v9 => (if v9 = 0 then j7 (0 : Int32) else j7 (1 : Int32))))))))
set_option maxHeartbeats 4000000 in
theorem x1_actT_ok {l : Launch} {g : Gh} (hW : OKW g) (hX1 : OKX1 g) (hX3 : OKX3 g) (hX4 : OKX4 g) {G : Wd} {a : Nat} {x1 : Int32} {x2 : Int32} (hlt : l.stackTraces = false) (hZ : OKZ g) (hf : x1_actT G a x1 x2 = some ()) : MNt l g yX1_act cX1_act 3 (some .int) 7 G [.ref a, .int x1, .int x2] := by
  refine vm_startT (by decide) (Nat.le_of_ble_eq_true rfl) ?_
  intro X hl hg hN hc htb hC hD hQ
  subst hl; subst hg
  have h := hf
  unfold x1_actT at h
  show VM X G G G [(0, .ref a), (1, .int x1), (2, .int x2)] [] 0
  refine vm_l (fun h9 => pv_aload_n 0 hc dX1_act_0 rfl rfl h9) ?_
  refine vm_l (fun h9 => pv_iload_n 1 hc dX1_act_1 rfl rfl h9) ?_
  obtain ⟨s3, gs3, h⟩ := RD_el h
  obtain ⟨s4, gs4, h⟩ := RD_el h
  obtain ⟨v5, hf2, h⟩ := BD_el h
  refine vm_l (fun h9 => ca_X1_233 hc hX1 gs3 (x1_isAct_ok hX1 hX4 gs3 gs4 hf2) (by decide) (Nat.le_of_ble_eq_true rfl) dX1_act_2 h9) ?_
  obtain ⟨j7, hj7, h⟩ := JN1_el (P := fun v6 => VM X G G G [(0, .ref a), (1, .int x1), (2, .int x2)] [.int v6] 23) h (by
      intro v6 h
      have hx : v6 = 0 := by by_cases hz : v6 = 0; exact hz; rw [if_neg hz] at h; cases h
      exact nt_must hx hc htb hlt hZ hW hC hD (by decide) hQ dX1_act_23)
  refine vm_if h (fun h k1 k2 => pv_if_eq (tgt := 22) hc dX1_act_5 (by decide) h k1 k2) (fun h => ?_) (fun h => ?_)
  · refine vm_l (fun h9 => pv_iconst (0 : Int32) hc dX1_act_22 rfl h9) ?_
    exact hj7 _ h
  · refine vm_l (fun h9 => pv_iload_n 2 hc dX1_act_8 rfl rfl h9) ?_
    refine vm_l (fun h9 => pv_iconst (0 : Int32) hc dX1_act_9 rfl h9) ?_
    refine vm_l (fun h9 => pv_bipush (6 : Int32) hc dX1_act_10 rfl h9) ?_
    obtain ⟨v9, hf8, h⟩ := BD_el h
    refine vm_l (fun h9 hk9 hn9 => pv_callS (nA := 3) hc (x1_isIn_ok   hf8) (lw_S q850 q678 q109 q679) (by decide +kernel) ⟨(by decide), by decide⟩ rfl rfl (Nat.le_of_ble_eq_true rfl) dX1_act_12 ⟨hk9, hn9⟩ h9 hk9 hn9) ?_
    refine vm_if h (fun h k1 k2 => pv_if_eq (tgt := 22) hc dX1_act_15 (by decide) h k1 k2) (fun h => ?_) (fun h => ?_)
    · refine vm_l (fun h9 => pv_iconst (0 : Int32) hc dX1_act_22 rfl h9) ?_
      exact hj7 _ h
    · refine vm_l (fun h9 => pv_iconst (1 : Int32) hc dX1_act_18 rfl h9) ?_
      refine vm_l (fun h9 => pv_goto (tgt := 23) hc dX1_act_19 (by decide) h9) ?_
      exact hj7 _ h
