/-! house, book (written by gen/x6.py) -/
set_option maxRecDepth 100000
def x1_house (G : Wd) (a : Nat) : Option (Int32 × Wd) := RD G a 0 (fun s3 => BD (x1_taken s3) (fun s4 => LT (wp G a 0 s4) (fun w5 => LT (sI s4 11 (0 : Int32)) (fun s6 => LT (wp w5 a 0 s6) (fun w7 => LT (wn w7 102 r0) (fun w8 => LT w7.1 (fun b9 => LT (wf w8 b9 2 zH 7) (fun w12 => RD w12 a 0 (fun s13 => BX2 (x6_read s13 b9 zH) (fun s16 s17 => LT (wp (wp w12 b9 2 s16) a 0 s17) (fun w20 => RD w20 a 0 (fun s21 => LT (sI s21 11 (gI s21 40)) (fun s22 => LT (wp w20 a 0 s22) (fun w23 => some (((-1 : Int32) - (gI s22 41)), w23)))))) (fun v19 s16 s17 => LT (wp (wp w12 b9 2 s16) a 0 s17) (fun w18 => LT (sP s17 6 (some b9)) (fun s24 => LT (wp w18 a 0 s24) (fun w25 => RD w25 (a + 13) 3 (fun s27 => RD w25 b9 2 (fun s28 => BD (x4_begin s27 s28) (fun s29 => LT (wp w25 (a + 13) 3 s29) (fun w30 => RD w30 a 0 (fun s31 => LT (sI s31 13 (0 : Int32)) (fun s32 => LT (wp w30 a 0 s32) (fun w33 => LT (sP s32 31 (none : Option Nat)) (fun s34 => LT (wp w33 a 0 s34) (fun w35 => some (v19, w35)))))))))))))))))))))))
set_option maxHeartbeats 4000000 in
theorem x1_house_ok {l : Launch} {g : Gh} (hW : OKW g) (hX1 : OKX1 g) (hX3 : OKX3 g) (hX4 : OKX4 g) {G : Wd} {a : Nat} {r : Int32} {G' : Wd} (hf : x1_house G a = some (r, G')) : MHa l g yX1_house cX1_house 3 (some .int) [(17, 50, 51, 13)] 12 (G'.1 - G.1) (1200 * (G'.1 - G.1)) (a + 2) "ParlourLeaves$Fault" G [.ref a] (some (some (.int r))) G' := by
  refine vm_startH (by decide) (Nat.le_of_ble_eq_true rfl) ?_
  intro X hl hg hN hc hr htb hR hQ
  subst hl; subst hg
  have h := hf
  unfold x1_house at h
  show VM X G G' G [(0, .ref a)] [] 0
  refine vm_l (fun h9 => pv_aload_n 0 hc dX1_house_0 rfl rfl h9) ?_
  obtain ⟨s3, gs3, h⟩ := RD_el h
  obtain ⟨s4, hf2, h⟩ := BD_el h
  obtain ⟨w5, hw5, h⟩ := LT_el h
  refine vm_e hw5 rfl (fun h9 => ca_X1_159 hc hX1 gs3 (x1_taken_ok hX1 gs3 hf2) (by decide) (Nat.le_of_ble_eq_true rfl) dX1_house_1 h9) ?_
  refine vm_l (fun h9 => pv_aload_n 0 hc dX1_house_4 rfl rfl h9) ?_
  refine vm_l (fun h9 => pv_iconst (0 : Int32) hc dX1_house_5 rfl h9) ?_
  obtain ⟨s6, hs6, h⟩ := LT_el h
  obtain ⟨w7, hw7, h⟩ := LT_el h
  refine vm_e hw7 rfl (fun h9 => pf_X1_162 hc hX1 (wp_at' hw5) hs6 rfl dX1_house_6 h9) ?_
  obtain ⟨w8, hw8, h⟩ := LT_el h
  obtain ⟨b9, hb9, h⟩ := LT_el h
  refine vm_new (N := 14) (w1 := w8) hR (by decide) (by rw [hw8]; rfl) (fun hcap h9 => pv_new2 (r := r0) (kd := 102) hw8 hb9 hc hX3.1 in_X3 tyX3 tyX3_ok q243 q244 q113 (we102 hW _ _) (fun j hj => by match j, hj with | 0, _ => rfl | 1, _ => rfl | 2, _ => rfl | 3, _ => rfl | 4, _ => rfl | 5, _ => rfl | 6, _ => rfl | 7, _ => rfl | 8, _ => rfl | 9, _ => rfl | 10, _ => rfl | 11, _ => rfl | 12, _ => rfl | 13, _ => rfl) hcap dX1_house_9 h9) ?_
  refine vm_l (fun h9 => pv_dup hc dX1_house_12 rfl h9) ?_
  obtain ⟨w12, hw12, h⟩ := LT_el h
  refine vm_init hw12 hR (fun hcap h9 => pv_callIN (nA := 0) hc (x3_init_ok hX3 hX4 hW (hb9 ▸ wn_at hw8) (by rw [hw8, hb9]; rfl)) q245 q246 q113 q247 rfl (by decide +kernel) ⟨(by decide), by decide⟩ rfl rfl (Nat.le_of_ble_eq_true rfl) dX1_house_13 hcap h9) ?_
  refine vm_l (fun h9 => pv_astore_n (L' := [(1, .ref b9), (0, .ref a)]) hc dX1_house_16 rfl hN (by decide) rfl h9) ?_
  refine vm_l (fun h9 => pv_aload_n 1 hc dX1_house_17 rfl rfl h9) ?_
  obtain ⟨s13, gs13, h⟩ := RD_el h
  refine vm_l (fun h9 => gf_X1_95 hc hX1 gs13 dX1_house_18 h9) ?_
  refine vm_l (fun h9 => pv_aload_n 0 hc dX1_house_21 rfl rfl h9) ?_
  rcases BX2_el h with ⟨s16, s17, hf15, h⟩ | ⟨v19, s16, s17, hf15, h⟩
  · obtain ⟨w20, hw20, h⟩ := LT_el h
    refine vm_call0 hw20 rfl hR (fun hcap h9 => px_catch hc htb ⟨by decide, by decide⟩ (by decide) q150 (wax hW _ hc.2.2.2.2.2.1.2.2.1).1 (cr_X1_165 hc hX1 gs13 (x6_read_ok hX1 hX3 gs13 (by rw [hw12]; exact wp_at _ _ _ _) hf15) (by decide) (Nat.le_of_ble_eq_true rfl) dX1_house_22) hcap h9) ?_
    refine vm_l (fun h9 => pv_astore_n (L' := [(2, .ref (a + 2)), (1, .ref b9), (0, .ref a)]) hc dX1_house_51 rfl hN (by decide) rfl h9) ?_
    refine vm_l (fun h9 => pv_aload_n 2 hc dX1_house_52 rfl rfl h9) ?_
    refine vm_l (fun h9 => pv_aload_n 0 hc dX1_house_53 rfl rfl h9) ?_
    obtain ⟨s21, gs21, h⟩ := RD_el h
    refine vm_l (fun h9 => gf_X1_176 hc hX1 gs21 dX1_house_54 h9) ?_
    obtain ⟨s22, hs22, h⟩ := LT_el h
    obtain ⟨w23, hw23, h⟩ := LT_el h
    refine vm_e hw23 rfl (fun h9 => pf_X1_162 hc hX1 gs21 hs22 rfl dX1_house_57 h9) ?_
    refine vm_l (fun h9 => pv_iconst (-1 : Int32) hc dX1_house_60 rfl h9) ?_
    refine vm_l (fun h9 => pv_aload_n 0 hc dX1_house_61 rfl rfl h9) ?_
    refine vm_l (fun h9 => gf_X1_179 hc hX1 (wp_at' hw23) dX1_house_62 h9) ?_
    refine vm_l (fun h9 => pv_isub hc dX1_house_65 h9) ?_
    obtain ⟨rfl, rfl⟩ := Prod.mk.inj (Option.some.inj h)
    exact fun _ => ⟨Nat.le_refl _, px_iret hc hr hQ rfl rfl dX1_house_66⟩
  obtain ⟨w18, hw18, h⟩ := LT_el h
  refine vm_call0 hw18 rfl hR (fun hcap h9 => px_backRi (cr_X1_165 hc hX1 gs13 (x6_read_ok hX1 hX3 gs13 (by rw [hw12]; exact wp_at _ _ _ _) hf15) (by decide) (Nat.le_of_ble_eq_true rfl) dX1_house_22) hcap h9) ?_
  refine vm_l (fun h9 => pv_istore_n (L' := [(2, .int v19), (1, .ref b9), (0, .ref a)]) hc dX1_house_25 rfl hN (by decide) rfl h9) ?_
  refine vm_l (fun h9 => pv_aload_n 2 hc dX1_house_26 rfl rfl h9) ?_
  refine vm_l (fun h9 => pv_aload_n 1 hc dX1_house_27 rfl rfl h9) ?_
  obtain ⟨s24, hs24, h⟩ := LT_el h
  obtain ⟨w25, hw25, h⟩ := LT_el h
  refine vm_e hw25 rfl (fun h9 => pf_X1_76 (x := (some b9)) hc hX1 (wp_at' hw18) hs24 rfl dX1_house_28 h9) ?_
  refine vm_l (fun h9 => pv_aload_n 2 hc dX1_house_31 rfl rfl h9) ?_
  refine vm_l (fun h9 => gf_X1_83 hc hX1 (wp_at' hw25) dX1_house_32 h9) ?_
  refine vm_l (fun h9 => pv_aload_n 1 hc dX1_house_35 rfl rfl h9) ?_
  obtain ⟨s27, gs27, h⟩ := RD_el h
  obtain ⟨s28, gs28, h⟩ := RD_el h
  obtain ⟨s29, hf26, h⟩ := BD_el h
  obtain ⟨w30, hw30, h⟩ := LT_el h
  refine vm_e hw30 rfl (fun h9 hk9 hn9 => pv_callV (nA := 1) hc (x4_begin_ok hX3 hX4 gs27 gs28 hf26) gs27 (h_X4 hX4) hX4.1 (lw_V q469 q470 q471 q114 q472) (by decide +kernel) ⟨(by decide), by decide⟩ rfl rfl (Nat.le_of_ble_eq_true rfl) dX1_house_36 ⟨hk9, hn9⟩ h9 hk9 hn9) ?_
  refine vm_l (fun h9 => pv_aload_n 2 hc dX1_house_39 rfl rfl h9) ?_
  refine vm_l (fun h9 => pv_iconst (0 : Int32) hc dX1_house_40 rfl h9) ?_
  obtain ⟨s31, gs31, h⟩ := RD_el h
  obtain ⟨s32, hs32, h⟩ := LT_el h
  obtain ⟨w33, hw33, h⟩ := LT_el h
  refine vm_e hw33 rfl (fun h9 => pf_X1_169 hc hX1 gs31 hs32 rfl dX1_house_41 h9) ?_
  refine vm_l (fun h9 => pv_aload_n 2 hc dX1_house_44 rfl rfl h9) ?_
  refine vm_l (fun h9 => pv_null hc dX1_house_45 h9) ?_
  obtain ⟨s34, hs34, h⟩ := LT_el h
  obtain ⟨w35, hw35, h⟩ := LT_el h
  refine vm_e hw35 rfl (fun h9 => pf_X1_172 (x := (none : Option Nat)) hc hX1 (wp_at' hw33) hs34 rfl dX1_house_46 h9) ?_
  refine vm_l (fun h9 => pv_iload_n 0 hc dX1_house_49 rfl rfl h9) ?_
  obtain ⟨rfl, rfl⟩ := Prod.mk.inj (Option.some.inj h)
  exact fun _ => ⟨Nat.le_refl _, px_iret hc hr hQ rfl rfl dX1_house_50⟩
def x1_book (G : Wd) (a : Nat) (x1 : Int32) : Option (Int32 × Wd) := BD (x1_isIn x1 (0 : Int32) (1 : Int32)) (fun v2 => (if v2 = 0 then some ((-1000 : Int32), G) else RD G a 0 (fun s5 => BD (x1_taken s5) (fun s6 => LT (wp G a 0 s6) (fun w7 => LT (sI s6 11 (0 : Int32)) (fun s8 => LT (wp w7 a 0 s8) (fun w9 => BXW (x7_read w9 a) (fun w12 => MG w9 w12 (RD w12 a 0 (fun s15 => LT (sI s15 11 (gI s15 40)) (fun s16 => LT (wp w12 a 0 s16) (fun w17 => some (((-2 : Int32) - (gI s16 41)), w17)))))) (fun u13 w12 => MG w9 w12 (RD w12 a 0 (fun s18 => RD w12 (a + 21) 3 (fun s20 => RD w12 (a + 13) 3 (fun s21 => NE (a + 13) (a + 21) (BD (x4_be s20 s21) (fun s23 => LT (wp w12 (a + 21) 3 s23) (fun w24 => LP5 (fun (rec30 : Int32 → Int32 → Int32 → Int32 → Wd → Option (Int32 × Wd)) (v25 : Int32) (v26 : Int32) (v27 : Int32) (v28 : Int32) (s29 : Wd) => RD s29 a 0 (fun s31 => JN1 (fun (u32 : Unit) => RD s29 a 0 (fun s34 => LT (sA s34 28 0 v26) (fun s35 => LT (wp s29 a 0 s35) (fun w36 => LT (sA s35 28 1 v27) (fun s37 => LT (wp w36 a 0 s37) (fun w38 => RD w38 (a + 21) 3 (fun s39 => LT (sA s37 28 2 (gI s39 7)) (fun s40 => LT (wp w38 a 0 s40) (fun w41 => BD (gP s40 6) (fun b42 => RD w41 (a + 21) 3 (fun s44 => RD w41 b42 2 (fun s45 => BD (x4_proved s44 s45) (fun v46 => LT (sA s40 28 3 v46) (fun s47 => LT (wp w41 a 0 s47) (fun w48 => LT (sI s47 29 (1 : Int32)) (fun s49 => LT (wp w48 a 0 s49) (fun w50 => (if x1 = (1 : Int32) then (if v27 ≤ 0 then some (v25, w50) else BD (x1_keep w50 a) (fun w53 => MG w50 w53 (RD w53 a 0 (fun s55 => RD w53 (a + 13) 3 (fun s57 => RD w53 (a + 21) 3 (fun s58 => NE (a + 21) (a + 13) (BD (x4_be s57 s58) (fun s60 => LT (wp w53 (a + 13) 3 s60) (fun w61 => some (v25, w61)))))))))) else some (v25, w50))))))))))))))))))) (fun (j33 : Unit → Option (Int32 × Wd)) => (if (gI s31 129) ≤ v28 then j33 () else (if v25 = (-1 : Int32) then IX v28 40 (fun i62 => BD (gQ s31 128 i62) (fun b63 => BD (gP s31 6) (fun b64 => BD2 (ln_why s29 b63 b64 (a + 21)) (fun v68 w65 => MG s29 w65 ((if v68 = 0 then RD w65 a 0 (fun s69 => BD (gP s69 6) (fun b70 => BD (ln_live w65 b63 b70 (a + 21)) (fun w71 => MG w65 w71 (rec30 v25 v68 (v27 + (1 : Int32)) (v28 + (1 : Int32)) w71)))) else rec30 v28 v68 v27 (v28 + (1 : Int32)) w65)))))) else j33 ()))))) FU (-1 : Int32) (0 : Int32) (0 : Int32) (0 : Int32) w24)))))))))))))))
set_option maxHeartbeats 4000000 in
theorem x1_book_ok {l : Launch} {g : Gh} (hW : OKW g) (hX1 : OKX1 g) (hX3 : OKX3 g) (hX4 : OKX4 g) {G : Wd} {a : Nat} {x1 : Int32} {r : Int32} {G' : Wd} (hf : x1_book G a x1 = some (r, G')) : MHa l g yX1_book cX1_book 7 (some .int) [(22, 29, 32, 13)] 12 (G'.1 - G.1) (1200 * (G'.1 - G.1)) (a + 2) "ParlourLeaves$Fault" G [.ref a, .int x1] (some (some (.int r))) G' := by
  refine vm_startH (by decide) (Nat.le_of_ble_eq_true rfl) ?_
  intro X hl hg hN hc hr htb hR hQ
  subst hl; subst hg
  have h := hf
  unfold x1_book at h
  show VM X G G' G [(0, .ref a), (1, .int x1)] [] 0
  refine vm_l (fun h9 => pv_iload_n 1 hc dX1_book_0 rfl rfl h9) ?_
  refine vm_l (fun h9 => pv_iconst (0 : Int32) hc dX1_book_1 rfl h9) ?_
  refine vm_l (fun h9 => pv_iconst (1 : Int32) hc dX1_book_2 rfl h9) ?_
  obtain ⟨v2, hf1, h⟩ := BD_el h
  refine vm_l (fun h9 hk9 hn9 => pv_callS (nA := 3) hc (x1_isIn_ok   hf1) (lw_S q850 q678 q109 q679) (by decide +kernel) ⟨(by decide), by decide⟩ rfl rfl (Nat.le_of_ble_eq_true rfl) dX1_book_3 ⟨hk9, hn9⟩ h9 hk9 hn9) ?_
  refine vm_ifn h (fun h k1 k2 => pv_if_ne (tgt := 13) hc dX1_book_6 (by decide) h k1 k2) (fun h => ?_) (fun h => ?_)
  · refine vm_l (fun h9 => pv_aload_n 0 hc dX1_book_13 rfl rfl h9) ?_
    obtain ⟨s5, gs5, h⟩ := RD_el h
    obtain ⟨s6, hf4, h⟩ := BD_el h
    obtain ⟨w7, hw7, h⟩ := LT_el h
    refine vm_e hw7 rfl (fun h9 => ca_X1_159 hc hX1 gs5 (x1_taken_ok hX1 gs5 hf4) (by decide) (Nat.le_of_ble_eq_true rfl) dX1_book_14 h9) ?_
    refine vm_l (fun h9 => pv_aload_n 0 hc dX1_book_17 rfl rfl h9) ?_
    refine vm_l (fun h9 => pv_iconst (0 : Int32) hc dX1_book_18 rfl h9) ?_
    obtain ⟨s8, hs8, h⟩ := LT_el h
    obtain ⟨w9, hw9, h⟩ := LT_el h
    refine vm_e hw9 rfl (fun h9 => pf_X1_162 hc hX1 (wp_at' hw7) hs8 rfl dX1_book_19 h9) ?_
    refine vm_l (fun h9 => pv_aload_n 0 hc dX1_book_22 rfl rfl h9) ?_
    refine vm_l (fun h9 => gf_X1_102 hc hX1 (wp_at' hw9) dX1_book_23 h9) ?_
    rcases BXW_el h with ⟨w12, hf11, h⟩ | ⟨u13, w12, hf11, h⟩
    · obtain ⟨hm14, h⟩ := MG_el h
      refine vm_call hR hm14 rfl rfl (fun hcap h9 => px_catch hc htb ⟨by decide, by decide⟩ (by decide) q150 (wax hW _ hc.2.2.2.2.2.1.2.2.1).1 (px_runV (nA := 0) hc (x7_read_ok hW hX1 hX3 hX4 hf11) (wp_at' hw9) (o_X7 hX1) (xk5 hX1) (lw_V q1170 q1171 q1172 q117 q1173) (by decide +kernel) ⟨(by decide), by decide⟩ rfl rfl (Nat.le_of_ble_eq_true rfl) dX1_book_26) hcap h9) ?_
      refine vm_l (fun h9 => pv_astore_n (L' := [(2, .ref (a + 2)), (0, .ref a), (1, .int x1)]) hc dX1_book_32 rfl hN (by decide) rfl h9) ?_
      refine vm_l (fun h9 => pv_aload_n 1 hc dX1_book_33 rfl rfl h9) ?_
      refine vm_l (fun h9 => pv_aload_n 0 hc dX1_book_34 rfl rfl h9) ?_
      obtain ⟨s15, gs15, h⟩ := RD_el h
      refine vm_l (fun h9 => gf_X1_176 hc hX1 gs15 dX1_book_35 h9) ?_
      obtain ⟨s16, hs16, h⟩ := LT_el h
      obtain ⟨w17, hw17, h⟩ := LT_el h
      refine vm_e hw17 rfl (fun h9 => pf_X1_162 hc hX1 gs15 hs16 rfl dX1_book_38 h9) ?_
      refine vm_l (fun h9 => pv_bipush (-2 : Int32) hc dX1_book_41 rfl h9) ?_
      refine vm_l (fun h9 => pv_aload_n 0 hc dX1_book_43 rfl rfl h9) ?_
      refine vm_l (fun h9 => gf_X1_179 hc hX1 (wp_at' hw17) dX1_book_44 h9) ?_
      refine vm_l (fun h9 => pv_isub hc dX1_book_47 h9) ?_
      obtain ⟨rfl, rfl⟩ := Prod.mk.inj (Option.some.inj h)
      exact fun _ => ⟨Nat.le_refl _, px_iret hc hr hQ rfl rfl dX1_book_48⟩
    obtain ⟨hm14, h⟩ := MG_el h
    refine vm_call hR hm14 rfl rfl (fun hcap h9 => px_backRv (px_runV (nA := 0) hc (x7_read_ok hW hX1 hX3 hX4 hf11) (wp_at' hw9) (o_X7 hX1) (xk5 hX1) (lw_V q1170 q1171 q1172 q117 q1173) (by decide +kernel) ⟨(by decide), by decide⟩ rfl rfl (Nat.le_of_ble_eq_true rfl) dX1_book_26) hcap h9) ?_
    refine vm_l (fun h9 => pv_goto (tgt := 49) hc dX1_book_29 (by decide) h9) ?_
    refine vm_l (fun h9 => pv_aload_n 0 hc dX1_book_49 rfl rfl h9) ?_
    obtain ⟨s18, gs18, h⟩ := RD_el h
    refine vm_l (fun h9 => gf_X1_87 hc hX1 gs18 dX1_book_50 h9) ?_
    refine vm_l (fun h9 => pv_aload_n 0 hc dX1_book_53 rfl rfl h9) ?_
    refine vm_l (fun h9 => gf_X1_83 hc hX1 gs18 dX1_book_54 h9) ?_
    obtain ⟨s20, gs20, h⟩ := RD_el h
    obtain ⟨s21, gs21, h⟩ := RD_el h
    obtain ⟨ne22, h⟩ := NE_el h
    obtain ⟨s23, hf19, h⟩ := BD_el h
    obtain ⟨w24, hw24, h⟩ := LT_el h
    refine vm_e hw24 rfl (fun h9 hk9 hn9 => pv_callV (nA := 1) hc (x4_be_ok hX4 gs20 gs21 ne22 hf19) gs20 (h_X4 hX4) hX4.1 (lw_V q916 q917 q918 q114 q919) (by decide +kernel) ⟨(by decide), by decide⟩ rfl rfl (Nat.le_of_ble_eq_true rfl) dX1_book_57 ⟨hk9, hn9⟩ h9 hk9 hn9) ?_
    refine vm_l (fun h9 => pv_iconst (-1 : Int32) hc dX1_book_60 rfl h9) ?_
    refine vm_l (fun h9 => pv_istore_n (L' := [(2, .int (-1 : Int32)), (0, .ref a), (1, .int x1)]) hc dX1_book_61 rfl hN (by decide) rfl h9) ?_
    refine vm_l (fun h9 => pv_iconst (0 : Int32) hc dX1_book_62 rfl h9) ?_
    refine vm_l (fun h9 => pv_istore_n (L' := [(3, .int (0 : Int32)), (2, .int (-1 : Int32)), (0, .ref a), (1, .int x1)]) hc dX1_book_63 rfl hN (by decide) rfl h9) ?_
    refine vm_l (fun h9 => pv_iconst (0 : Int32) hc dX1_book_64 rfl h9) ?_
    refine vm_l (fun h9 => pv_istore (L' := [(4, .int (0 : Int32)), (3, .int (0 : Int32)), (2, .int (-1 : Int32)), (0, .ref a), (1, .int x1)]) hc dX1_book_65 hN (by decide) rfl h9) ?_
    refine vm_l (fun h9 => pv_iconst (0 : Int32) hc dX1_book_67 rfl h9) ?_
    refine vm_l (fun h9 => pv_istore (L' := [(5, .int (0 : Int32)), (4, .int (0 : Int32)), (3, .int (0 : Int32)), (2, .int (-1 : Int32)), (0, .ref a), (1, .int x1)]) hc dX1_book_68 hN (by decide) rfl h9) ?_
    refine vm_sub [4, 5, 3, 2, 1, 0] rfl ?_
    refine LP5_el (P := fun v25 v26 v27 v28 s29 => VM X G G' s29 [(0, .ref a), (1, .int x1), (2, .int v25), (3, .int v26), (4, .int v27), (5, .int v28)] [] 70) ?_ FU _ _ _ _ _ h
    intro rec30 hrec30 v25 v26 v27 v28 s29 h
    refine vm_l (fun h9 => pv_iload 5 hc dX1_book_70 rfl h9) ?_
    refine vm_l (fun h9 => pv_aload_n 0 hc dX1_book_72 rfl rfl h9) ?_
    obtain ⟨s31, gs31, h⟩ := RD_el h
    refine vm_l (fun h9 => gf_X1_102 hc hX1 gs31 dX1_book_73 h9) ?_
    refine vm_l (fun h9 => gf_X1_425 hc hX1 gs31 dX1_book_76 h9) ?_
    obtain ⟨j33, hj33, h⟩ := JN1_el (P := fun u32 => VM X G G' s29 [(0, .ref a), (1, .int x1), (2, .int v25), (3, .int v26), (4, .int v27)] [] 145) h (by
        intro u32 h
        refine vm_l (fun h9 => pv_aload_n 0 hc dX1_book_145 rfl rfl h9) ?_
        obtain ⟨s34, gs34, h⟩ := RD_el h
        refine vm_l (fun h9 => gf_X1_130 hc hX1 gs34 dX1_book_146 h9) ?_
        refine vm_l (fun h9 => pv_iconst (0 : Int32) hc dX1_book_149 rfl h9) ?_
        refine vm_l (fun h9 => pv_iload_n 3 hc dX1_book_150 rfl rfl h9) ?_
        obtain ⟨s35, hs35, h⟩ := LT_el h
        obtain ⟨w36, hw36, h⟩ := LT_el h
        refine vm_e hw36 rfl (fun h9 => as_X1_toldRow hc hX1 gs34 (vp_lit (j := 0) (by decide)) hs35 rfl dX1_book_151 h9) ?_
        refine vm_l (fun h9 => pv_aload_n 0 hc dX1_book_152 rfl rfl h9) ?_
        refine vm_l (fun h9 => gf_X1_130 hc hX1 (wp_at' hw36) dX1_book_153 h9) ?_
        refine vm_l (fun h9 => pv_iconst (1 : Int32) hc dX1_book_156 rfl h9) ?_
        refine vm_l (fun h9 => pv_iload 4 hc dX1_book_157 rfl h9) ?_
        obtain ⟨s37, hs37, h⟩ := LT_el h
        obtain ⟨w38, hw38, h⟩ := LT_el h
        refine vm_e hw38 rfl (fun h9 => as_X1_toldRow hc hX1 (wp_at' hw36) (vp_lit (j := 1) (by decide)) hs37 rfl dX1_book_159 h9) ?_
        refine vm_l (fun h9 => pv_aload_n 0 hc dX1_book_160 rfl rfl h9) ?_
        refine vm_l (fun h9 => gf_X1_130 hc hX1 (wp_at' hw38) dX1_book_161 h9) ?_
        refine vm_l (fun h9 => pv_iconst (2 : Int32) hc dX1_book_164 rfl h9) ?_
        refine vm_l (fun h9 => pv_aload_n 0 hc dX1_book_165 rfl rfl h9) ?_
        refine vm_l (fun h9 => gf_X1_87 hc hX1 (wp_at' hw38) dX1_book_166 h9) ?_
        obtain ⟨s39, gs39, h⟩ := RD_el h
        refine vm_l (fun h9 => gf_X1_266 hc hX4 gs39 dX1_book_169 h9) ?_
        obtain ⟨s40, hs40, h⟩ := LT_el h
        obtain ⟨w41, hw41, h⟩ := LT_el h
        refine vm_e hw41 rfl (fun h9 => as_X1_toldRow hc hX1 (wp_at' hw38) (vp_lit (j := 2) (by decide)) hs40 rfl dX1_book_172 h9) ?_
        refine vm_l (fun h9 => pv_aload_n 0 hc dX1_book_173 rfl rfl h9) ?_
        refine vm_l (fun h9 => gf_X1_130 hc hX1 (wp_at' hw41) dX1_book_174 h9) ?_
        refine vm_l (fun h9 => pv_iconst (3 : Int32) hc dX1_book_177 rfl h9) ?_
        refine vm_l (fun h9 => pv_aload_n 0 hc dX1_book_178 rfl rfl h9) ?_
        refine vm_l (fun h9 => gf_X1_87 hc hX1 (wp_at' hw41) dX1_book_179 h9) ?_
        refine vm_l (fun h9 => pv_aload_n 0 hc dX1_book_182 rfl rfl h9) ?_
        obtain ⟨b42, hb42, h⟩ := BD_el h
        refine vm_l (fun h9 => gp_X1_76 hc hX1 (wp_at' hw41) hb42 dX1_book_183 h9) ?_
        obtain ⟨s44, gs44, h⟩ := RD_el h
        obtain ⟨s45, gs45, h⟩ := RD_el h
        obtain ⟨v46, hf43, h⟩ := BD_el h
        refine vm_l (fun h9 hk9 hn9 => pv_callV (nA := 1) hc (x4_proved_ok hX3 hX4 gs44 gs45 hf43) gs44 (h_X4 hX4) hX4.1 (lw_V q890 q891 q892 q114 q893) (by decide +kernel) ⟨(by decide), by decide⟩ rfl rfl (Nat.le_of_ble_eq_true rfl) dX1_book_186 ⟨hk9, hn9⟩ h9 hk9 hn9) ?_
        obtain ⟨s47, hs47, h⟩ := LT_el h
        obtain ⟨w48, hw48, h⟩ := LT_el h
        refine vm_e hw48 rfl (fun h9 => as_X1_toldRow hc hX1 (wp_at' hw41) (vp_lit (j := 3) (by decide)) hs47 rfl dX1_book_189 h9) ?_
        refine vm_l (fun h9 => pv_aload_n 0 hc dX1_book_190 rfl rfl h9) ?_
        refine vm_l (fun h9 => pv_iconst (1 : Int32) hc dX1_book_191 rfl h9) ?_
        obtain ⟨s49, hs49, h⟩ := LT_el h
        obtain ⟨w50, hw50, h⟩ := LT_el h
        refine vm_e hw50 rfl (fun h9 => pf_X1_442 hc hX1 (wp_at' hw48) (by decide) hs49 rfl dX1_book_192 h9) ?_
        refine vm_l (fun h9 => pv_iload_n 1 hc dX1_book_195 rfl rfl h9) ?_
        refine vm_l (fun h9 => pv_iconst (1 : Int32) hc dX1_book_196 rfl h9) ?_
        refine vm_ifn h (fun h k1 k2 => pv_icmp_ne (tgt := 220) hc dX1_book_197 (by decide) h k1 k2) (fun h => ?_) (fun h => ?_)
        · refine vm_l (fun h9 => pv_iload_n 2 hc dX1_book_220 rfl rfl h9) ?_
          obtain ⟨rfl, rfl⟩ := Prod.mk.inj (Option.some.inj h)
          exact fun _ => ⟨Nat.le_refl _, px_iret hc hr hQ rfl rfl dX1_book_221⟩
        · refine vm_l (fun h9 => pv_iload 4 hc dX1_book_200 rfl h9) ?_
          refine vm_if h (fun h k1 k2 => pv_if_le (tgt := 220) hc dX1_book_202 (by decide) h k1 k2) (fun h => ?_) (fun h => ?_)
          · refine vm_l (fun h9 => pv_iload_n 2 hc dX1_book_220 rfl rfl h9) ?_
            obtain ⟨rfl, rfl⟩ := Prod.mk.inj (Option.some.inj h)
            exact fun _ => ⟨Nat.le_refl _, px_iret hc hr hQ rfl rfl dX1_book_221⟩
          · refine vm_l (fun h9 => pv_aload_n 0 hc dX1_book_205 rfl rfl h9) ?_
            obtain ⟨w53, hf52, h⟩ := BD_el h
            obtain ⟨hm54, h⟩ := MG_el h
            refine vm_call hR hm54 rfl rfl (fun hcap h9 => pv_callV (nA := 0) hc (x1_keep_ok hW hX1 hX3 hX4 hf52) (wp_at' hw50) (o_X1 hX1) (xk0 hX1) (lw_V q936 q938 qs11 q109 q939) (by decide +kernel) ⟨(by decide), by decide⟩ rfl rfl (Nat.le_of_ble_eq_true rfl) dX1_book_206 hcap h9) ?_
            refine vm_l (fun h9 => pv_aload_n 0 hc dX1_book_209 rfl rfl h9) ?_
            obtain ⟨s55, gs55, h⟩ := RD_el h
            refine vm_l (fun h9 => gf_X1_83 hc hX1 gs55 dX1_book_210 h9) ?_
            refine vm_l (fun h9 => pv_aload_n 0 hc dX1_book_213 rfl rfl h9) ?_
            refine vm_l (fun h9 => gf_X1_87 hc hX1 gs55 dX1_book_214 h9) ?_
            obtain ⟨s57, gs57, h⟩ := RD_el h
            obtain ⟨s58, gs58, h⟩ := RD_el h
            obtain ⟨ne59, h⟩ := NE_el h
            obtain ⟨s60, hf56, h⟩ := BD_el h
            obtain ⟨w61, hw61, h⟩ := LT_el h
            refine vm_e hw61 rfl (fun h9 hk9 hn9 => pv_callV (nA := 1) hc (x4_be_ok hX4 gs57 gs58 ne59 hf56) gs57 (h_X4 hX4) hX4.1 (lw_V q916 q917 q918 q114 q919) (by decide +kernel) ⟨(by decide), by decide⟩ rfl rfl (Nat.le_of_ble_eq_true rfl) dX1_book_217 ⟨hk9, hn9⟩ h9 hk9 hn9) ?_
            refine vm_l (fun h9 => pv_iload_n 2 hc dX1_book_220 rfl rfl h9) ?_
            obtain ⟨rfl, rfl⟩ := Prod.mk.inj (Option.some.inj h)
            exact fun _ => ⟨Nat.le_refl _, px_iret hc hr hQ rfl rfl dX1_book_221⟩)
    refine vm_if h (fun h k1 k2 => pv_icmp_ge (tgt := 145) hc dX1_book_79 (by decide) h k1 k2) (fun h => ?_) (fun h => ?_)
    · refine vm_sub [0, 1, 2, 3, 4] rfl ?_
      exact hj33 _ h
    · refine vm_l (fun h9 => pv_iload_n 2 hc dX1_book_82 rfl rfl h9) ?_
      refine vm_l (fun h9 => pv_iconst (-1 : Int32) hc dX1_book_83 rfl h9) ?_
      refine vm_ifn h (fun h k1 k2 => pv_icmp_ne (tgt := 145) hc dX1_book_84 (by decide) h k1 k2) (fun h => ?_) (fun h => ?_)
      · refine vm_sub [0, 1, 2, 3, 4] rfl ?_
        exact hj33 _ h
      · refine vm_l (fun h9 => pv_aload_n 0 hc dX1_book_87 rfl rfl h9) ?_
        refine vm_l (fun h9 => gf_X1_102 hc hX1 gs31 dX1_book_88 h9) ?_
        refine vm_l (fun h9 => gf_X1_428 hc hX1 gs31 dX1_book_91 h9) ?_
        refine vm_l (fun h9 => pv_iload 5 hc dX1_book_94 rfl h9) ?_
        obtain ⟨i62, hi62, h⟩ := IX_el h
        obtain ⟨b63, hb63, h⟩ := BD_el h
        refine vm_l (fun h9 => pv_aald hc gs31 (v_row hX1) 7 (xt7 hX1) hi62 hb63 dX1_book_96 h9) ?_
        refine vm_l (fun h9 => pv_astore (L' := [(6, .ref b63), (0, .ref a), (1, .int x1), (2, .int v25), (3, .int v26), (4, .int v27), (5, .int v28)]) hc dX1_book_97 hN (by decide) rfl h9) ?_
        refine vm_l (fun h9 => pv_aload 0 hc dX1_book_99 rfl h9) ?_
        refine vm_l (fun h9 => pv_aload_n 1 hc dX1_book_101 rfl rfl h9) ?_
        obtain ⟨b64, hb64, h⟩ := BD_el h
        refine vm_l (fun h9 => gp_X1_76 hc hX1 gs31 hb64 dX1_book_102 h9) ?_
        refine vm_l (fun h9 => pv_aload_n 1 hc dX1_book_105 rfl rfl h9) ?_
        refine vm_l (fun h9 => gf_X1_87 hc hX1 gs31 dX1_book_106 h9) ?_
        obtain ⟨v68, w65, hf66, h⟩ := BD2_el h
        obtain ⟨hm67, h⟩ := MG_el h
        refine vm_call hR hm67 rfl rfl (fun hcap h9 => ln_why_row hc hW hX1 hX3 hX4 hf66 (by decide) (Nat.le_of_ble_eq_true rfl) dX1_book_109 hcap h9) ?_
        refine vm_l (fun h9 => pv_istore_n (L' := [(3, .int v68), (6, .ref b63), (0, .ref a), (1, .int x1), (2, .int v25), (4, .int v27), (5, .int v28)]) hc dX1_book_112 rfl hN (by decide) rfl h9) ?_
        refine vm_l (fun h9 => pv_iload_n 0 hc dX1_book_113 rfl rfl h9) ?_
        refine vm_if h (fun h k1 k2 => pv_if_eq (tgt := 123) hc dX1_book_114 (by decide) h k1 k2) (fun h => ?_) (fun h => ?_)
        · refine vm_l (fun h9 => pv_aload 1 hc dX1_book_123 rfl h9) ?_
          refine vm_l (fun h9 => pv_aload_n 2 hc dX1_book_125 rfl rfl h9) ?_
          obtain ⟨s69, gs69, h⟩ := RD_el h
          obtain ⟨b70, hb70, h⟩ := BD_el h
          refine vm_l (fun h9 => gp_X1_76 hc hX1 gs69 hb70 dX1_book_126 h9) ?_
          refine vm_l (fun h9 => pv_aload_n 2 hc dX1_book_129 rfl rfl h9) ?_
          refine vm_l (fun h9 => gf_X1_87 hc hX1 gs69 dX1_book_130 h9) ?_
          obtain ⟨w71, hf72, h⟩ := BD_el h
          obtain ⟨hm73, h⟩ := MG_el h
          refine vm_call hR hm73 rfl rfl (fun hcap h9 => ln_live_row hc hW hX1 hX3 hX4 hf72 (by decide) (Nat.le_of_ble_eq_true rfl) dX1_book_133 hcap h9) ?_
          refine vm_l (fun h9 => pv_iinc (L' := [(4, .int (v27 + (1 : Int32))), (3, .int v68), (6, .ref b63), (0, .ref a), (1, .int x1), (2, .int v25), (5, .int v28)]) 5 (v27 + (1 : Int32)) hc dX1_book_136 rfl rfl hN (by decide) rfl h9) ?_
          refine vm_l (fun h9 => pv_iinc (L' := [(5, .int (v28 + (1 : Int32))), (4, .int (v27 + (1 : Int32))), (3, .int v68), (6, .ref b63), (0, .ref a), (1, .int x1), (2, .int v25)]) 6 (v28 + (1 : Int32)) hc dX1_book_139 rfl rfl hN (by decide) rfl h9) ?_
          refine vm_l (fun h9 => pv_goto (tgt := 70) hc dX1_book_142 (by decide) h9) ?_
          refine vm_sub [4, 5, 6, 2, 1, 0] rfl ?_
          exact hrec30 _ _ _ _ _ h
        · refine vm_l (fun h9 => pv_iload 6 hc dX1_book_117 rfl h9) ?_
          refine vm_l (fun h9 => pv_istore_n (L' := [(2, .int v28), (3, .int v68), (6, .ref b63), (0, .ref a), (1, .int x1), (4, .int v27), (5, .int v28)]) hc dX1_book_119 rfl hN (by decide) rfl h9) ?_
          refine vm_l (fun h9 => pv_goto (tgt := 139) hc dX1_book_120 (by decide) h9) ?_
          refine vm_l (fun h9 => pv_iinc (L' := [(5, .int (v28 + (1 : Int32))), (2, .int v28), (3, .int v68), (6, .ref b63), (0, .ref a), (1, .int x1), (4, .int v27)]) 6 (v28 + (1 : Int32)) hc dX1_book_139 rfl rfl hN (by decide) rfl h9) ?_
          refine vm_l (fun h9 => pv_goto (tgt := 70) hc dX1_book_142 (by decide) h9) ?_
          refine vm_sub [4, 5, 1, 2, 6, 0] rfl ?_
          exact hrec30 _ _ _ _ _ h
  · refine vm_l (fun h9 => pv_sipush (-1000 : Int32) hc dX1_book_9 rfl h9) ?_
    obtain ⟨rfl, rfl⟩ := Prod.mk.inj (Option.some.inj h)
    exact fun _ => ⟨Nat.le_refl _, px_iret hc hr hQ rfl rfl dX1_book_12⟩
