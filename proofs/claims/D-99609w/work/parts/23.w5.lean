/-! What the nodes of a sentence answer (written by gen/x6.py) -/
set_option maxRecDepth 100000
/-- what a node of a sentence answers, by a contract of its class -/
def CDx (l : Launch) (g : Gh) (N : Nat) (G : Wd) (q a : Nat) (p v : Int32) (w1 : Wd) : Prop := ∃ (kd ci : Nat) (C : String) (T : u_T) (NN : Nat) (fs : List Value) (s : Rec) (bytes : ByteArray) (maxL hy : Nat), G.2 q = some (kd, s) ∧ (gE g kd q s)[0]? = some (q, .inr (ci, fs)) ∧ (gcl g)[ci]? = some (C, T, NN) ∧ Cond.selects C condN (condY C) ∈ lw_all ∧ Cond.instanceMethod (condY C) ∈ lw_all ∧ Cond.initialized C ∈ lw_all ∧ Cond.code (condY C) bytes maxL (some .boolean) ∈ lw_all ∧ (∀ U, AX U → va_Fw C condN (condY C) U) ∧ hy ≤ N ∧ maxL ≤ 45 ∧ MTa l g (condY C) bytes maxL (some .boolean) hy (w1.1 - G.1) (1200 * (w1.1 - G.1)) G [.ref q, .ref a, .int p] (some (.int v)) w1
theorem lw_4 {w1 w2 w3 w4 : Cond} (h1 : w1 ∈ lw_all) (h2 : w2 ∈ lw_all) (h3 : w3 ∈ lw_all) (h4 : w4 ∈ lw_all) : ∀ w ∈ [w1, w2, w3, w4], w ∈ lw_all := by
  intro w hw
  simp only [List.mem_cons, List.not_mem_nil, or_false] at hw
  rcases hw with rfl | rfl | rfl | rfl <;> assumption
theorem cd_row {X : CX} {cc : ByteArray} {own : String} {ht k n N q a index count : Nat} {p v : Int32} {G w1 : Wd} {L : List (Nat × Value)} {st : List Value} {pc : Nat} (hc : OK X cc own ht) (hl : Cond.methodLink own index condN ∈ lw_all) (hW : OKW (xg X)) (hz : CDx (xl X) (xg X) N G q a p v w1) (hh : N < ht) (hst : (st.map fun v => v.category).sum ≤ 8) (d : decode cc pc = .ok (.invokeinterface index count, 5)) (hcap : k + (w1.1 - G.1) ≤ (xR X).cells ∧ n + 1200 * (w1.1 - G.1) ≤ (xR X).slots) (h : V X (k + (w1.1 - G.1)) (n + 1200 * (w1.1 - G.1)) w1 L (.int v :: st) (pc + 5)) : V X k n G L (.int p :: .ref a :: .ref q :: st) pc := by
  obtain ⟨kd, ci, C, T, NN, fs, s, bytes, maxL, hy, h1, h2, h3, h4, h5, h6, h7, h8, h9, h10, h11⟩ := hz
  exact pv_callF (x := condN) (y := condY C) (nA := 2) hc h11 h1 h2 h3 (lw_app (lw_4 hl h4 h5 h6) (lw_meth h7)) (h8 _ (wax hW _ hc.2.2.2.2.2.1.2.2.1)) (by decide +kernel) ⟨by omega, h10⟩ rfl rfl hst d hcap h
def x16_tells (G : Wd) (q : Nat) (x1 : Nat) (x2 : Int32) : Option (Int32 × Wd) := LP1 (fun (rec2 : Int32 → Option (Int32 × Wd)) (v1 : Int32) => RD G x1 3 (fun s3 => (if (gI s3 8) ≤ v1 then some ((0 : Int32), G) else IX v1 12 (fun i4 => RD G q 13 (fun s5 => (if (gA s3 2 i4) = (gI s5 1) then BD (x4_hasCome s3 x2 v1) (fun v7 => (if v7 = 0 then rec2 (v1 + (1 : Int32)) else some ((1 : Int32), G))) else rec2 (v1 + (1 : Int32)))))))) FU (0 : Int32)
set_option maxHeartbeats 4000000 in
theorem x16_tells_ok {l : Launch} {g : Gh} (hW : OKW g) (hX1 : OKX1 g) (hX3 : OKX3 g) (hX4 : OKX4 g) {G : Wd} {q : Nat} {x1 : Nat} {x2 : Int32} {r : Int32} {G' : Wd} (hf : x16_tells G q x1 x2 = some (r, G')) : MTa l g yX16_tells cX16_tells 4 (some .boolean) 3 (G'.1 - G.1) (1200 * (G'.1 - G.1)) G [.ref q, .ref x1, .int x2] (some (.int r)) G' := by
  refine vm_start (by decide) (Nat.le_of_ble_eq_true rfl) ?_
  intro X hl hg hN hc hr hni hR hQ
  subst hl; subst hg
  have h := hf
  unfold x16_tells at h
  show VM X G G' G [(0, .ref q), (1, .ref x1), (2, .int x2)] [] 0
  refine vm_l (fun h9 => pv_iconst (0 : Int32) hc dX16_tells_0 rfl h9) ?_
  refine vm_l (fun h9 => pv_istore_n (L' := [(3, .int (0 : Int32)), (0, .ref q), (1, .ref x1), (2, .int x2)]) hc dX16_tells_1 rfl hN (by decide) rfl h9) ?_
  refine vm_sub [1, 2, 3, 0] rfl ?_
  refine LP1_el (P := fun v1 => VM X G G' G [(0, .ref q), (1, .ref x1), (2, .int x2), (3, .int v1)] [] 2) ?_ FU _ h
  intro rec2 hrec2 v1 h
  refine vm_l (fun h9 => pv_iload_n 3 hc dX16_tells_2 rfl rfl h9) ?_
  refine vm_l (fun h9 => pv_aload_n 1 hc dX16_tells_3 rfl rfl h9) ?_
  obtain ⟨s3, gs3, h⟩ := RD_el h
  refine vm_l (fun h9 => gf_X16_16 hc hX4 gs3 dX16_tells_4 h9) ?_
  refine vm_if h (fun h k1 k2 => pv_icmp_ge (tgt := 40) hc dX16_tells_7 (by decide) h k1 k2) (fun h => ?_) (fun h => ?_)
  · refine vm_l (fun h9 => pv_iconst (0 : Int32) hc dX16_tells_40 rfl h9) ?_
    obtain ⟨rfl, rfl⟩ := Prod.mk.inj (Option.some.inj h)
    exact fun _ => ⟨Nat.le_refl _, pv_zret hc hr hQ (by decide) rfl rfl dX16_tells_41⟩
  · refine vm_l (fun h9 => pv_aload_n 1 hc dX16_tells_10 rfl rfl h9) ?_
    refine vm_l (fun h9 => gf_X16_21 hc hX4 gs3 dX16_tells_11 h9) ?_
    refine vm_l (fun h9 => pv_iload_n 3 hc dX16_tells_14 rfl rfl h9) ?_
    obtain ⟨i4, hi4, h⟩ := IX_el h
    refine vm_l (fun h9 => al_X4_2 hc hX4 gs3 hi4 dX16_tells_15 h9) ?_
    refine vm_l (fun h9 => pv_aload_n 0 hc dX16_tells_16 rfl rfl h9) ?_
    obtain ⟨s5, gs5, h⟩ := RD_el h
    refine vm_l (fun h9 => gw_X16_13 hc hW gs5 dX16_tells_17 h9) ?_
    refine vm_ifn h (fun h k1 k2 => pv_icmp_ne (tgt := 34) hc dX16_tells_20 (by decide) h k1 k2) (fun h => ?_) (fun h => ?_)
    · refine vm_l (fun h9 => pv_iinc (L' := [(3, .int (v1 + (1 : Int32))), (0, .ref q), (1, .ref x1), (2, .int x2)]) 3 (v1 + (1 : Int32)) hc dX16_tells_34 rfl rfl hN (by decide) rfl h9) ?_
      refine vm_l (fun h9 => pv_goto (tgt := 2) hc dX16_tells_37 (by decide) h9) ?_
      refine vm_sub [1, 2, 3, 0] rfl ?_
      exact hrec2 _ h
    · refine vm_l (fun h9 => pv_aload_n 1 hc dX16_tells_23 rfl rfl h9) ?_
      refine vm_l (fun h9 => pv_iload_n 2 hc dX16_tells_24 rfl rfl h9) ?_
      refine vm_l (fun h9 => pv_iload_n 3 hc dX16_tells_25 rfl rfl h9) ?_
      obtain ⟨v7, hf6, h⟩ := BD_el h
      refine vm_l (fun h9 hk9 hn9 => pv_callV (nA := 2) hc (x4_hasCome_ok hX4 gs3 hf6) gs3 (h_X4 hX4) hX4.1 (lw_V q1459 q887 q888 q114 q889) (by decide +kernel) ⟨(by decide), by decide⟩ rfl rfl (Nat.le_of_ble_eq_true rfl) dX16_tells_26 ⟨hk9, hn9⟩ h9 hk9 hn9) ?_
      refine vm_if h (fun h k1 k2 => pv_if_eq (tgt := 34) hc dX16_tells_29 (by decide) h k1 k2) (fun h => ?_) (fun h => ?_)
      · refine vm_l (fun h9 => pv_iinc (L' := [(3, .int (v1 + (1 : Int32))), (0, .ref q), (1, .ref x1), (2, .int x2)]) 3 (v1 + (1 : Int32)) hc dX16_tells_34 rfl rfl hN (by decide) rfl h9) ?_
        refine vm_l (fun h9 => pv_goto (tgt := 2) hc dX16_tells_37 (by decide) h9) ?_
        refine vm_sub [1, 2, 3, 0] rfl ?_
        exact hrec2 _ h
      · refine vm_l (fun h9 => pv_iconst (1 : Int32) hc dX16_tells_32 rfl h9) ?_
        obtain ⟨rfl, rfl⟩ := Prod.mk.inj (Option.some.inj h)
        exact fun _ => ⟨Nat.le_refl _, pv_zret hc hr hQ (by decide) rfl rfl dX16_tells_33⟩
def x16_is (G : Wd) (q : Nat) (a : Nat) (x2 : Int32) : Option (Int32 × Wd) := RD G q 13 (fun s1 => (if (gI s1 0) = (0 : Int32) then RD G a 0 (fun s2 => BD (gP s2 6) (fun b3 => RD G (a + 13) 3 (fun s5 => RD G b3 2 (fun s6 => BD (x4_sees s5 s6 x2) (fun v7 => (if v7 = 0 then some ((1 : Int32), G) else some ((0 : Int32), G))))))) else if (gI s1 0) = (1 : Int32) then RD G a 0 (fun s9 => BD (gP s9 6) (fun b10 => RD G b10 2 (fun s11 => BD (x1_has (gI s11 11) x2) (fun v13 => BZ v13 (some (v13, G)))))) else if (gI s1 0) = (2 : Int32) then RD G a 0 (fun s16 => RD G (a + 13) 3 (fun s17 => IX x2 6 (fun i18 => (if (gA s17 0 i18) = (gI s1 1) then some ((1 : Int32), G) else some ((0 : Int32), G))))) else if (gI s1 0) = (3 : Int32) then RD G a 0 (fun s20 => BD (gP s20 6) (fun b21 => RD G (a + 13) 3 (fun s23 => RD G b21 2 (fun s24 => BD (x4_sees s23 s24 x2) (fun v25 => BD (x1_has v25 (gI s1 1)) (fun v27 => BZ v27 (some (v27, G)))))))) else RD G a 0 (fun s30 => BD2 (x16_tells G q (a + 13) x2) (fun v35 w33 => MG G w33 (BZ v35 (some (v35, w33)))))))
set_option maxHeartbeats 4000000 in
theorem x16_is_ok {l : Launch} {g : Gh} (hW : OKW g) (hX1 : OKX1 g) (hX3 : OKX3 g) (hX4 : OKX4 g) {G : Wd} {q : Nat} {a : Nat} {x2 : Int32} {r : Int32} {G' : Wd} (hf : x16_is G q a x2 = some (r, G')) : MTa l g yX16_is cX16_is 3 (some .boolean) 4 (G'.1 - G.1) (1200 * (G'.1 - G.1)) G [.ref q, .ref a, .int x2] (some (.int r)) G' := by
  refine vm_start (by decide) (Nat.le_of_ble_eq_true rfl) ?_
  intro X hl hg hN hc hr hni hR hQ
  subst hl; subst hg
  have h := hf
  unfold x16_is at h
  show VM X G G' G [(0, .ref q), (1, .ref a), (2, .int x2)] [] 0
  refine vm_l (fun h9 => pv_aload_n 0 hc dX16_is_0 rfl rfl h9) ?_
  obtain ⟨s1, gs1, h⟩ := RD_el h
  refine vm_l (fun h9 => gw_X16_7 hc hW gs1 dX16_is_1 h9) ?_
  refine vm_ifs h (fun h k1 k2 => pv_tsw (tgt := 36) (c := 0) (off := 32) hc dX16_is_4 (by decide) (by decide) (by decide) (by decide) h k1 k2) (fun h => ?_) (fun hx8 h => ?_)
  · refine vm_l (fun h9 => pv_aload_n 1 hc dX16_is_36 rfl rfl h9) ?_
    obtain ⟨s2, gs2, h⟩ := RD_el h
    refine vm_l (fun h9 => gf_X16_29 hc hX1 gs2 dX16_is_37 h9) ?_
    refine vm_l (fun h9 => pv_aload_n 1 hc dX16_is_40 rfl rfl h9) ?_
    obtain ⟨b3, hb3, h⟩ := BD_el h
    refine vm_l (fun h9 => gp_X16_35 hc hX1 gs2 hb3 dX16_is_41 h9) ?_
    refine vm_l (fun h9 => pv_iload_n 2 hc dX16_is_44 rfl rfl h9) ?_
    obtain ⟨s5, gs5, h⟩ := RD_el h
    obtain ⟨s6, gs6, h⟩ := RD_el h
    obtain ⟨v7, hf4, h⟩ := BD_el h
    refine vm_l (fun h9 hk9 hn9 => pv_callV (nA := 2) hc (x4_sees_ok hX3 hX4 gs5 gs6 hf4) gs5 (h_X4 hX4) hX4.1 (lw_V q1453 q872 q873 q114 q874) (by decide +kernel) ⟨(by decide), by decide⟩ rfl rfl (Nat.le_of_ble_eq_true rfl) dX16_is_45 ⟨hk9, hn9⟩ h9 hk9 hn9) ?_
    refine vm_ifn h (fun h k1 k2 => pv_if_ne (tgt := 55) hc dX16_is_48 (by decide) h k1 k2) (fun h => ?_) (fun h => ?_)
    · refine vm_l (fun h9 => pv_iconst (0 : Int32) hc dX16_is_55 rfl h9) ?_
      obtain ⟨rfl, rfl⟩ := Prod.mk.inj (Option.some.inj h)
      exact fun _ => ⟨Nat.le_refl _, pv_zret hc hr hQ (by decide) rfl rfl dX16_is_56⟩
    · refine vm_l (fun h9 => pv_iconst (1 : Int32) hc dX16_is_51 rfl h9) ?_
      refine vm_l (fun h9 => pv_goto (tgt := 56) hc dX16_is_52 (by decide) h9) ?_
      obtain ⟨rfl, rfl⟩ := Prod.mk.inj (Option.some.inj h)
      exact fun _ => ⟨Nat.le_refl _, pv_zret hc hr hQ (by decide) rfl rfl dX16_is_56⟩
  refine vm_ifs h (fun h k1 k2 => pv_tsw (tgt := 57) (c := 1) (off := 53) hc dX16_is_4 (by decide) (by decide) (by decide) (by decide) h k1 k2) (fun h => ?_) (fun hx15 h => ?_)
  · refine vm_l (fun h9 => pv_aload_n 1 hc dX16_is_57 rfl rfl h9) ?_
    obtain ⟨s9, gs9, h⟩ := RD_el h
    obtain ⟨b10, hb10, h⟩ := BD_el h
    refine vm_l (fun h9 => gp_X16_35 hc hX1 gs9 hb10 dX16_is_58 h9) ?_
    obtain ⟨s11, gs11, h⟩ := RD_el h
    refine vm_l (fun h9 => gf_X16_43 hc hX3 gs11 dX16_is_61 h9) ?_
    refine vm_l (fun h9 => pv_iload_n 2 hc dX16_is_64 rfl rfl h9) ?_
    obtain ⟨v13, hf12, h⟩ := BD_el h
    refine vm_l (fun h9 hk9 hn9 => pv_callSN (nA := 2) hc (x1_has_ok   hf12) q1454 q763 q109 q764 (by decide +kernel) ⟨(by decide), by decide⟩ rfl rfl (Nat.le_of_ble_eq_true rfl) dX16_is_65 ⟨hk9, hn9⟩ h9 hk9 hn9) ?_
    obtain ⟨hb14, h⟩ := BZ_el h
    obtain ⟨rfl, rfl⟩ := Prod.mk.inj (Option.some.inj h)
    exact fun _ => ⟨Nat.le_refl _, pv_zret hc hr hQ hb14 rfl rfl dX16_is_68⟩
  refine vm_ifs h (fun h k1 k2 => pv_tsw (tgt := 69) (c := 2) (off := 65) hc dX16_is_4 (by decide) (by decide) (by decide) (by decide) h k1 k2) (fun h => ?_) (fun hx19 h => ?_)
  · refine vm_l (fun h9 => pv_aload_n 1 hc dX16_is_69 rfl rfl h9) ?_
    obtain ⟨s16, gs16, h⟩ := RD_el h
    refine vm_l (fun h9 => gf_X16_29 hc hX1 gs16 dX16_is_70 h9) ?_
    obtain ⟨s17, gs17, h⟩ := RD_el h
    refine vm_l (fun h9 => gf_X16_51 hc hX4 gs17 dX16_is_73 h9) ?_
    refine vm_l (fun h9 => pv_iload_n 2 hc dX16_is_76 rfl rfl h9) ?_
    obtain ⟨i18, hi18, h⟩ := IX_el h
    refine vm_l (fun h9 => al_X4_0 hc hX4 gs17 hi18 dX16_is_77 h9) ?_
    refine vm_l (fun h9 => pv_aload_n 0 hc dX16_is_78 rfl rfl h9) ?_
    refine vm_l (fun h9 => gw_X16_13 hc hW gs1 dX16_is_79 h9) ?_
    refine vm_ifn h (fun h k1 k2 => pv_icmp_ne (tgt := 89) hc dX16_is_82 (by decide) h k1 k2) (fun h => ?_) (fun h => ?_)
    · refine vm_l (fun h9 => pv_iconst (0 : Int32) hc dX16_is_89 rfl h9) ?_
      obtain ⟨rfl, rfl⟩ := Prod.mk.inj (Option.some.inj h)
      exact fun _ => ⟨Nat.le_refl _, pv_zret hc hr hQ (by decide) rfl rfl dX16_is_90⟩
    · refine vm_l (fun h9 => pv_iconst (1 : Int32) hc dX16_is_85 rfl h9) ?_
      refine vm_l (fun h9 => pv_goto (tgt := 90) hc dX16_is_86 (by decide) h9) ?_
      obtain ⟨rfl, rfl⟩ := Prod.mk.inj (Option.some.inj h)
      exact fun _ => ⟨Nat.le_refl _, pv_zret hc hr hQ (by decide) rfl rfl dX16_is_90⟩
  refine vm_ifs h (fun h k1 k2 => pv_tsw (tgt := 91) (c := 3) (off := 87) hc dX16_is_4 (by decide) (by decide) (by decide) (by decide) h k1 k2) (fun h => ?_) (fun hx29 h => ?_)
  · refine vm_l (fun h9 => pv_aload_n 1 hc dX16_is_91 rfl rfl h9) ?_
    obtain ⟨s20, gs20, h⟩ := RD_el h
    refine vm_l (fun h9 => gf_X16_29 hc hX1 gs20 dX16_is_92 h9) ?_
    refine vm_l (fun h9 => pv_aload_n 1 hc dX16_is_95 rfl rfl h9) ?_
    obtain ⟨b21, hb21, h⟩ := BD_el h
    refine vm_l (fun h9 => gp_X16_35 hc hX1 gs20 hb21 dX16_is_96 h9) ?_
    refine vm_l (fun h9 => pv_iload_n 2 hc dX16_is_99 rfl rfl h9) ?_
    obtain ⟨s23, gs23, h⟩ := RD_el h
    obtain ⟨s24, gs24, h⟩ := RD_el h
    obtain ⟨v25, hf22, h⟩ := BD_el h
    refine vm_l (fun h9 hk9 hn9 => pv_callV (nA := 2) hc (x4_sees_ok hX3 hX4 gs23 gs24 hf22) gs23 (h_X4 hX4) hX4.1 (lw_V q1453 q872 q873 q114 q874) (by decide +kernel) ⟨(by decide), by decide⟩ rfl rfl (Nat.le_of_ble_eq_true rfl) dX16_is_100 ⟨hk9, hn9⟩ h9 hk9 hn9) ?_
    refine vm_l (fun h9 => pv_aload_n 0 hc dX16_is_103 rfl rfl h9) ?_
    refine vm_l (fun h9 => gw_X16_13 hc hW gs1 dX16_is_104 h9) ?_
    obtain ⟨v27, hf26, h⟩ := BD_el h
    refine vm_l (fun h9 hk9 hn9 => pv_callSN (nA := 2) hc (x1_has_ok   hf26) q1454 q763 q109 q764 (by decide +kernel) ⟨(by decide), by decide⟩ rfl rfl (Nat.le_of_ble_eq_true rfl) dX16_is_107 ⟨hk9, hn9⟩ h9 hk9 hn9) ?_
    obtain ⟨hb28, h⟩ := BZ_el h
    obtain ⟨rfl, rfl⟩ := Prod.mk.inj (Option.some.inj h)
    exact fun _ => ⟨Nat.le_refl _, pv_zret hc hr hQ hb28 rfl rfl dX16_is_110⟩
  refine vm_l (fun h9 => pv_tableOut (tgt := 111) hc dX16_is_4 (tsw_out 0 [0, 1, 2, 3] (ne_c hx8 (ne_c hx15 (ne_c hx19 (ne_c hx29 ne_n)))) 3 (by decide)) (by decide) h9) ?_
  refine vm_l (fun h9 => pv_aload_n 0 hc dX16_is_111 rfl rfl h9) ?_
  refine vm_l (fun h9 => pv_aload_n 1 hc dX16_is_112 rfl rfl h9) ?_
  obtain ⟨s30, gs30, h⟩ := RD_el h
  refine vm_l (fun h9 => gf_X16_29 hc hX1 gs30 dX16_is_113 h9) ?_
  refine vm_l (fun h9 => pv_iload_n 2 hc dX16_is_116 rfl rfl h9) ?_
  obtain ⟨v35, w33, hf32, h⟩ := BD2_el h
  obtain ⟨hm34, h⟩ := MG_el h
  refine vm_call hR hm34 rfl rfl (fun hcap h9 => pv_callV (nA := 2) hc (x16_tells_ok hW hX1 hX3 hX4 hf32) gs1 (wo_13 hW) (wc13 hW) (lw_V q1455 q1457 qs28 q137 q1458) (by decide +kernel) ⟨(by decide), by decide⟩ rfl rfl (Nat.le_of_ble_eq_true rfl) dX16_is_117 hcap h9) ?_
  obtain ⟨hb36, h⟩ := BZ_el h
  obtain ⟨rfl, rfl⟩ := Prod.mk.inj (Option.some.inj h)
  exact fun _ => ⟨Nat.le_refl _, pv_zret hc hr hQ hb36 rfl rfl dX16_is_120⟩
def x17_is (G : Wd) (q : Nat) (a : Nat) (x2 : Int32) : Option (Int32 × Wd) := RD G q 14 (fun s1 => JN1 (fun (v2 : Int32) => RD G q 14 (fun s4 => (if (gI s4 1) = (60 : Int32) then (if (gI s4 2) ≤ v2 then some ((0 : Int32), G) else some ((1 : Int32), G)) else (if (gI s4 1) = (61 : Int32) then (if v2 = (gI s4 2) then some ((1 : Int32), G) else some ((0 : Int32), G)) else (if v2 ≤ (gI s4 2) then some ((0 : Int32), G) else some ((1 : Int32), G)))))) (fun (j3 : Int32 → Option (Int32 × Wd)) => (if (gI s1 0) = 0 then RD G a 0 (fun s8 => RD G (a + 13) 3 (fun s10 => BD (x4_leaves s10 x2 (1 : Int32)) (fun v11 => j3 v11))) else (if (gI s1 0) = (1 : Int32) then RD G a 0 (fun s5 => RD G (a + 13) 3 (fun s6 => IX x2 6 (fun i7 => j3 (gA s6 1 i7)))) else j3 x2))))
set_option maxHeartbeats 4000000 in
theorem x17_is_ok {l : Launch} {g : Gh} (hW : OKW g) (hX1 : OKX1 g) (hX3 : OKX3 g) (hX4 : OKX4 g) {G : Wd} {q : Nat} {a : Nat} {x2 : Int32} {r : Int32} {G' : Wd} (hf : x17_is G q a x2 = some (r, G')) : MTa l g yX17_is cX17_is 4 (some .boolean) 4 (G'.1 - G.1) (1200 * (G'.1 - G.1)) G [.ref q, .ref a, .int x2] (some (.int r)) G' := by
  refine vm_start (by decide) (Nat.le_of_ble_eq_true rfl) ?_
  intro X hl hg hN hc hr hni hR hQ
  subst hl; subst hg
  have h := hf
  unfold x17_is at h
  show VM X G G' G [(0, .ref q), (1, .ref a), (2, .int x2)] [] 0
  refine vm_l (fun h9 => pv_aload_n 0 hc dX17_is_0 rfl rfl h9) ?_
  obtain ⟨s1, gs1, h⟩ := RD_el h
  refine vm_l (fun h9 => gw_X17_7 hc hW gs1 dX17_is_1 h9) ?_
  obtain ⟨j3, hj3, h⟩ := JN1_el (P := fun v2 => VM X G G' G [(0, .ref q)] [.int v2] 40) h (by
      intro v2 h
      refine vm_l (fun h9 => pv_istore_n (L' := [(3, .int v2), (0, .ref q)]) hc dX17_is_40 rfl hN (by decide) rfl h9) ?_
      refine vm_l (fun h9 => pv_aload_n 1 hc dX17_is_41 rfl rfl h9) ?_
      obtain ⟨s4, gs4, h⟩ := RD_el h
      refine vm_l (fun h9 => gw_X17_13 hc hW gs4 dX17_is_42 h9) ?_
      refine vm_l (fun h9 => pv_bipush (60 : Int32) hc dX17_is_45 rfl h9) ?_
      refine vm_ifn h (fun h k1 k2 => pv_icmp_ne (tgt := 66) hc dX17_is_47 (by decide) h k1 k2) (fun h => ?_) (fun h => ?_)
      · refine vm_l (fun h9 => pv_aload_n 1 hc dX17_is_66 rfl rfl h9) ?_
        refine vm_l (fun h9 => gw_X17_13 hc hW gs4 dX17_is_67 h9) ?_
        refine vm_l (fun h9 => pv_bipush (61 : Int32) hc dX17_is_70 rfl h9) ?_
        refine vm_ifn h (fun h k1 k2 => pv_icmp_ne (tgt := 91) hc dX17_is_72 (by decide) h k1 k2) (fun h => ?_) (fun h => ?_)
        · refine vm_l (fun h9 => pv_iload_n 0 hc dX17_is_91 rfl rfl h9) ?_
          refine vm_l (fun h9 => pv_aload_n 1 hc dX17_is_92 rfl rfl h9) ?_
          refine vm_l (fun h9 => gw_X17_16 hc hW gs4 dX17_is_93 h9) ?_
          refine vm_if h (fun h k1 k2 => pv_icmp_le (tgt := 103) hc dX17_is_96 (by decide) h k1 k2) (fun h => ?_) (fun h => ?_)
          · refine vm_l (fun h9 => pv_iconst (0 : Int32) hc dX17_is_103 rfl h9) ?_
            obtain ⟨rfl, rfl⟩ := Prod.mk.inj (Option.some.inj h)
            exact fun _ => ⟨Nat.le_refl _, pv_zret hc hr hQ (by decide) rfl rfl dX17_is_104⟩
          · refine vm_l (fun h9 => pv_iconst (1 : Int32) hc dX17_is_99 rfl h9) ?_
            refine vm_l (fun h9 => pv_goto (tgt := 104) hc dX17_is_100 (by decide) h9) ?_
            obtain ⟨rfl, rfl⟩ := Prod.mk.inj (Option.some.inj h)
            exact fun _ => ⟨Nat.le_refl _, pv_zret hc hr hQ (by decide) rfl rfl dX17_is_104⟩
        · refine vm_l (fun h9 => pv_iload_n 0 hc dX17_is_75 rfl rfl h9) ?_
          refine vm_l (fun h9 => pv_aload_n 1 hc dX17_is_76 rfl rfl h9) ?_
          refine vm_l (fun h9 => gw_X17_16 hc hW gs4 dX17_is_77 h9) ?_
          refine vm_ifn h (fun h k1 k2 => pv_icmp_ne (tgt := 87) hc dX17_is_80 (by decide) h k1 k2) (fun h => ?_) (fun h => ?_)
          · refine vm_l (fun h9 => pv_iconst (0 : Int32) hc dX17_is_87 rfl h9) ?_
            refine vm_l (fun h9 => pv_goto (tgt := 104) hc dX17_is_88 (by decide) h9) ?_
            obtain ⟨rfl, rfl⟩ := Prod.mk.inj (Option.some.inj h)
            exact fun _ => ⟨Nat.le_refl _, pv_zret hc hr hQ (by decide) rfl rfl dX17_is_104⟩
          · refine vm_l (fun h9 => pv_iconst (1 : Int32) hc dX17_is_83 rfl h9) ?_
            refine vm_l (fun h9 => pv_goto (tgt := 104) hc dX17_is_84 (by decide) h9) ?_
            obtain ⟨rfl, rfl⟩ := Prod.mk.inj (Option.some.inj h)
            exact fun _ => ⟨Nat.le_refl _, pv_zret hc hr hQ (by decide) rfl rfl dX17_is_104⟩
      · refine vm_l (fun h9 => pv_iload_n 0 hc dX17_is_50 rfl rfl h9) ?_
        refine vm_l (fun h9 => pv_aload_n 1 hc dX17_is_51 rfl rfl h9) ?_
        refine vm_l (fun h9 => gw_X17_16 hc hW gs4 dX17_is_52 h9) ?_
        refine vm_if h (fun h k1 k2 => pv_icmp_ge (tgt := 62) hc dX17_is_55 (by decide) h k1 k2) (fun h => ?_) (fun h => ?_)
        · refine vm_l (fun h9 => pv_iconst (0 : Int32) hc dX17_is_62 rfl h9) ?_
          refine vm_l (fun h9 => pv_goto (tgt := 104) hc dX17_is_63 (by decide) h9) ?_
          obtain ⟨rfl, rfl⟩ := Prod.mk.inj (Option.some.inj h)
          exact fun _ => ⟨Nat.le_refl _, pv_zret hc hr hQ (by decide) rfl rfl dX17_is_104⟩
        · refine vm_l (fun h9 => pv_iconst (1 : Int32) hc dX17_is_58 rfl h9) ?_
          refine vm_l (fun h9 => pv_goto (tgt := 104) hc dX17_is_59 (by decide) h9) ?_
          obtain ⟨rfl, rfl⟩ := Prod.mk.inj (Option.some.inj h)
          exact fun _ => ⟨Nat.le_refl _, pv_zret hc hr hQ (by decide) rfl rfl dX17_is_104⟩)
  refine vm_ifn h (fun h k1 k2 => pv_if_ne (tgt := 19) hc dX17_is_4 (by decide) h k1 k2) (fun h => ?_) (fun h => ?_)
  · refine vm_l (fun h9 => pv_aload_n 0 hc dX17_is_19 rfl rfl h9) ?_
    refine vm_l (fun h9 => gw_X17_7 hc hW gs1 dX17_is_20 h9) ?_
    refine vm_l (fun h9 => pv_iconst (1 : Int32) hc dX17_is_23 rfl h9) ?_
    refine vm_ifn h (fun h k1 k2 => pv_icmp_ne (tgt := 39) hc dX17_is_24 (by decide) h k1 k2) (fun h => ?_) (fun h => ?_)
    · refine vm_l (fun h9 => pv_iload_n 2 hc dX17_is_39 rfl rfl h9) ?_
      refine vm_sub [0] rfl ?_
      exact hj3 _ h
    · refine vm_l (fun h9 => pv_aload_n 1 hc dX17_is_27 rfl rfl h9) ?_
      obtain ⟨s5, gs5, h⟩ := RD_el h
      refine vm_l (fun h9 => gf_X17_19 hc hX1 gs5 dX17_is_28 h9) ?_
      obtain ⟨s6, gs6, h⟩ := RD_el h
      refine vm_l (fun h9 => gf_X17_31 hc hX4 gs6 dX17_is_31 h9) ?_
      refine vm_l (fun h9 => pv_iload_n 2 hc dX17_is_34 rfl rfl h9) ?_
      obtain ⟨i7, hi7, h⟩ := IX_el h
      refine vm_l (fun h9 => al_X4_1 hc hX4 gs6 hi7 dX17_is_35 h9) ?_
      refine vm_l (fun h9 => pv_goto (tgt := 40) hc dX17_is_36 (by decide) h9) ?_
      refine vm_sub [0] rfl ?_
      exact hj3 _ h
  · refine vm_l (fun h9 => pv_aload_n 1 hc dX17_is_7 rfl rfl h9) ?_
    obtain ⟨s8, gs8, h⟩ := RD_el h
    refine vm_l (fun h9 => gf_X17_19 hc hX1 gs8 dX17_is_8 h9) ?_
    refine vm_l (fun h9 => pv_iload_n 2 hc dX17_is_11 rfl rfl h9) ?_
    refine vm_l (fun h9 => pv_iconst (1 : Int32) hc dX17_is_12 rfl h9) ?_
    obtain ⟨s10, gs10, h⟩ := RD_el h
    obtain ⟨v11, hf9, h⟩ := BD_el h
    refine vm_l (fun h9 hk9 hn9 => pv_callV (nA := 2) hc (x4_leaves_ok hX4 gs10 hf9) gs10 (h_X4 hX4) hX4.1 (lw_V q1446 q882 q883 q114 q884) (by decide +kernel) ⟨(by decide), by decide⟩ rfl rfl (Nat.le_of_ble_eq_true rfl) dX17_is_13 ⟨hk9, hn9⟩ h9 hk9 hn9) ?_
    refine vm_l (fun h9 => pv_goto (tgt := 40) hc dX17_is_16 (by decide) h9) ?_
    refine vm_sub [0] rfl ?_
    exact hj3 _ h
def x15_is (ci : Wd → Nat → Nat → Int32 → Option (Int32 × Wd)) (G : Wd) (q : Nat) (a : Nat) (x2 : Int32) : Option (Int32 × Wd) := RD G q 12 (fun s1 => BD (gP s1 0) (fun b2 => BD2 (ci G b2 a x2) (fun v6 w3 => MG G w3 ((if v6 = 0 then some ((1 : Int32), w3) else some ((0 : Int32), w3))))))
set_option maxHeartbeats 4000000 in
theorem x15_is_ok {l : Launch} {g : Gh} {ci : Wd → Nat → Nat → Int32 → Option (Int32 × Wd)} {N : Nat} (hci : ∀ {G : Wd} {q a : Nat} {p v : Int32} {w1 : Wd}, ci G q a p = some (v, w1) → CDx l g N G q a p v w1) (hW : OKW g) (hX1 : OKX1 g) (hX3 : OKX3 g) (hX4 : OKX4 g) {G : Wd} {q : Nat} {a : Nat} {x2 : Int32} {r : Int32} {G' : Wd} (hf : x15_is ci G q a x2 = some (r, G')) : MTa l g yX15_is cX15_is 3 (some .boolean) (N + 1) (G'.1 - G.1) (1200 * (G'.1 - G.1)) G [.ref q, .ref a, .int x2] (some (.int r)) G' := by
  refine vm_start (by decide) (Nat.le_of_ble_eq_true rfl) ?_
  intro X hl hg hN hc hr hni hR hQ
  subst hl; subst hg
  have h := hf
  unfold x15_is at h
  show VM X G G' G [(0, .ref q), (1, .ref a), (2, .int x2)] [] 0
  refine vm_l (fun h9 => pv_aload_n 0 hc dX15_is_0 rfl rfl h9) ?_
  obtain ⟨s1, gs1, h⟩ := RD_el h
  obtain ⟨b2, hb2, h⟩ := BD_el h
  refine vm_l (fun h9 => gq_X15_7 hc hW gs1 hb2 dX15_is_1 h9) ?_
  refine vm_l (fun h9 => pv_aload_n 1 hc dX15_is_4 rfl rfl h9) ?_
  refine vm_l (fun h9 => pv_iload_n 2 hc dX15_is_5 rfl rfl h9) ?_
  obtain ⟨v6, w3, hf4, h⟩ := BD2_el h
  obtain ⟨hm5, h⟩ := MG_el h
  refine vm_call hR hm5 rfl rfl (fun hcap h9 => cd_row hc q1467 hW (hci hf4) (by omega) (Nat.le_of_ble_eq_true rfl) dX15_is_6 hcap h9) ?_
  refine vm_ifn h (fun h k1 k2 => pv_if_ne (tgt := 18) hc dX15_is_11 (by decide) h k1 k2) (fun h => ?_) (fun h => ?_)
  · refine vm_l (fun h9 => pv_iconst (0 : Int32) hc dX15_is_18 rfl h9) ?_
    obtain ⟨rfl, rfl⟩ := Prod.mk.inj (Option.some.inj h)
    exact fun _ => ⟨Nat.le_refl _, pv_zret hc hr hQ (by decide) rfl rfl dX15_is_19⟩
  · refine vm_l (fun h9 => pv_iconst (1 : Int32) hc dX15_is_14 rfl h9) ?_
    refine vm_l (fun h9 => pv_goto (tgt := 19) hc dX15_is_15 (by decide) h9) ?_
    obtain ⟨rfl, rfl⟩ := Prod.mk.inj (Option.some.inj h)
    exact fun _ => ⟨Nat.le_refl _, pv_zret hc hr hQ (by decide) rfl rfl dX15_is_19⟩
def x18_is (ci : Wd → Nat → Nat → Int32 → Option (Int32 × Wd)) (G : Wd) (q : Nat) (a : Nat) (x2 : Int32) : Option (Int32 × Wd) := RD G q 15 (fun s1 => BD (gP s1 0) (fun b2 => BD2 (ci G b2 a x2) (fun v6 w3 => MG G w3 ((if v6 = 0 then some ((0 : Int32), w3) else RD w3 q 15 (fun s7 => BD (gP s7 1) (fun b8 => BD2 (ci w3 b8 a x2) (fun v12 w9 => MG w3 w9 ((if v12 = 0 then some ((0 : Int32), w9) else some ((1 : Int32), w9)))))))))))
set_option maxHeartbeats 4000000 in
theorem x18_is_ok {l : Launch} {g : Gh} {ci : Wd → Nat → Nat → Int32 → Option (Int32 × Wd)} {N : Nat} (hci : ∀ {G : Wd} {q a : Nat} {p v : Int32} {w1 : Wd}, ci G q a p = some (v, w1) → CDx l g N G q a p v w1) (hW : OKW g) (hX1 : OKX1 g) (hX3 : OKX3 g) (hX4 : OKX4 g) {G : Wd} {q : Nat} {a : Nat} {x2 : Int32} {r : Int32} {G' : Wd} (hf : x18_is ci G q a x2 = some (r, G')) : MTa l g yX18_is cX18_is 3 (some .boolean) (N + 1) (G'.1 - G.1) (1200 * (G'.1 - G.1)) G [.ref q, .ref a, .int x2] (some (.int r)) G' := by
  refine vm_start (by decide) (Nat.le_of_ble_eq_true rfl) ?_
  intro X hl hg hN hc hr hni hR hQ
  subst hl; subst hg
  have h := hf
  unfold x18_is at h
  show VM X G G' G [(0, .ref q), (1, .ref a), (2, .int x2)] [] 0
  refine vm_l (fun h9 => pv_aload_n 0 hc dX18_is_0 rfl rfl h9) ?_
  obtain ⟨s1, gs1, h⟩ := RD_el h
  obtain ⟨b2, hb2, h⟩ := BD_el h
  refine vm_l (fun h9 => gq_X18_7 hc hW gs1 hb2 dX18_is_1 h9) ?_
  refine vm_l (fun h9 => pv_aload_n 1 hc dX18_is_4 rfl rfl h9) ?_
  refine vm_l (fun h9 => pv_iload_n 2 hc dX18_is_5 rfl rfl h9) ?_
  obtain ⟨v6, w3, hf4, h⟩ := BD2_el h
  obtain ⟨hm5, h⟩ := MG_el h
  refine vm_call hR hm5 rfl rfl (fun hcap h9 => cd_row hc q1439 hW (hci hf4) (by omega) (Nat.le_of_ble_eq_true rfl) dX18_is_6 hcap h9) ?_
  refine vm_if h (fun h k1 k2 => pv_if_eq (tgt := 32) hc dX18_is_11 (by decide) h k1 k2) (fun h => ?_) (fun h => ?_)
  · refine vm_l (fun h9 => pv_iconst (0 : Int32) hc dX18_is_32 rfl h9) ?_
    obtain ⟨rfl, rfl⟩ := Prod.mk.inj (Option.some.inj h)
    exact fun _ => ⟨Nat.le_refl _, pv_zret hc hr hQ (by decide) rfl rfl dX18_is_33⟩
  · refine vm_l (fun h9 => pv_aload_n 0 hc dX18_is_14 rfl rfl h9) ?_
    obtain ⟨s7, gs7, h⟩ := RD_el h
    obtain ⟨b8, hb8, h⟩ := BD_el h
    refine vm_l (fun h9 => gq_X18_13 hc hW gs7 hb8 dX18_is_15 h9) ?_
    refine vm_l (fun h9 => pv_aload_n 1 hc dX18_is_18 rfl rfl h9) ?_
    refine vm_l (fun h9 => pv_iload_n 2 hc dX18_is_19 rfl rfl h9) ?_
    obtain ⟨v12, w9, hf10, h⟩ := BD2_el h
    obtain ⟨hm11, h⟩ := MG_el h
    refine vm_call hR hm11 rfl rfl (fun hcap h9 => cd_row hc q1439 hW (hci hf10) (by omega) (Nat.le_of_ble_eq_true rfl) dX18_is_20 hcap h9) ?_
    refine vm_if h (fun h k1 k2 => pv_if_eq (tgt := 32) hc dX18_is_25 (by decide) h k1 k2) (fun h => ?_) (fun h => ?_)
    · refine vm_l (fun h9 => pv_iconst (0 : Int32) hc dX18_is_32 rfl h9) ?_
      obtain ⟨rfl, rfl⟩ := Prod.mk.inj (Option.some.inj h)
      exact fun _ => ⟨Nat.le_refl _, pv_zret hc hr hQ (by decide) rfl rfl dX18_is_33⟩
    · refine vm_l (fun h9 => pv_iconst (1 : Int32) hc dX18_is_28 rfl h9) ?_
      refine vm_l (fun h9 => pv_goto (tgt := 33) hc dX18_is_29 (by decide) h9) ?_
      obtain ⟨rfl, rfl⟩ := Prod.mk.inj (Option.some.inj h)
      exact fun _ => ⟨Nat.le_refl _, pv_zret hc hr hQ (by decide) rfl rfl dX18_is_33⟩
def x19_is (ci : Wd → Nat → Nat → Int32 → Option (Int32 × Wd)) (G : Wd) (q : Nat) (a : Nat) (x2 : Int32) : Option (Int32 × Wd) := RD G q 16 (fun s1 => BD (gP s1 0) (fun b2 => BD2 (ci G b2 a x2) (fun v6 w3 => MG G w3 ((if v6 = 0 then RD w3 q 16 (fun s7 => BD (gP s7 1) (fun b8 => BD2 (ci w3 b8 a x2) (fun v12 w9 => MG w3 w9 ((if v12 = 0 then some ((0 : Int32), w9) else some ((1 : Int32), w9)))))) else some ((1 : Int32), w3))))))
set_option maxHeartbeats 4000000 in
theorem x19_is_ok {l : Launch} {g : Gh} {ci : Wd → Nat → Nat → Int32 → Option (Int32 × Wd)} {N : Nat} (hci : ∀ {G : Wd} {q a : Nat} {p v : Int32} {w1 : Wd}, ci G q a p = some (v, w1) → CDx l g N G q a p v w1) (hW : OKW g) (hX1 : OKX1 g) (hX3 : OKX3 g) (hX4 : OKX4 g) {G : Wd} {q : Nat} {a : Nat} {x2 : Int32} {r : Int32} {G' : Wd} (hf : x19_is ci G q a x2 = some (r, G')) : MTa l g yX19_is cX19_is 3 (some .boolean) (N + 1) (G'.1 - G.1) (1200 * (G'.1 - G.1)) G [.ref q, .ref a, .int x2] (some (.int r)) G' := by
  refine vm_start (by decide) (Nat.le_of_ble_eq_true rfl) ?_
  intro X hl hg hN hc hr hni hR hQ
  subst hl; subst hg
  have h := hf
  unfold x19_is at h
  show VM X G G' G [(0, .ref q), (1, .ref a), (2, .int x2)] [] 0
  refine vm_l (fun h9 => pv_aload_n 0 hc dX19_is_0 rfl rfl h9) ?_
  obtain ⟨s1, gs1, h⟩ := RD_el h
  obtain ⟨b2, hb2, h⟩ := BD_el h
  refine vm_l (fun h9 => gq_X19_7 hc hW gs1 hb2 dX19_is_1 h9) ?_
  refine vm_l (fun h9 => pv_aload_n 1 hc dX19_is_4 rfl rfl h9) ?_
  refine vm_l (fun h9 => pv_iload_n 2 hc dX19_is_5 rfl rfl h9) ?_
  obtain ⟨v6, w3, hf4, h⟩ := BD2_el h
  obtain ⟨hm5, h⟩ := MG_el h
  refine vm_call hR hm5 rfl rfl (fun hcap h9 => cd_row hc q1431 hW (hci hf4) (by omega) (Nat.le_of_ble_eq_true rfl) dX19_is_6 hcap h9) ?_
  refine vm_ifn h (fun h k1 k2 => pv_if_ne (tgt := 28) hc dX19_is_11 (by decide) h k1 k2) (fun h => ?_) (fun h => ?_)
  · refine vm_l (fun h9 => pv_iconst (1 : Int32) hc dX19_is_28 rfl h9) ?_
    refine vm_l (fun h9 => pv_goto (tgt := 33) hc dX19_is_29 (by decide) h9) ?_
    obtain ⟨rfl, rfl⟩ := Prod.mk.inj (Option.some.inj h)
    exact fun _ => ⟨Nat.le_refl _, pv_zret hc hr hQ (by decide) rfl rfl dX19_is_33⟩
  · refine vm_l (fun h9 => pv_aload_n 0 hc dX19_is_14 rfl rfl h9) ?_
    obtain ⟨s7, gs7, h⟩ := RD_el h
    obtain ⟨b8, hb8, h⟩ := BD_el h
    refine vm_l (fun h9 => gq_X19_13 hc hW gs7 hb8 dX19_is_15 h9) ?_
    refine vm_l (fun h9 => pv_aload_n 1 hc dX19_is_18 rfl rfl h9) ?_
    refine vm_l (fun h9 => pv_iload_n 2 hc dX19_is_19 rfl rfl h9) ?_
    obtain ⟨v12, w9, hf10, h⟩ := BD2_el h
    obtain ⟨hm11, h⟩ := MG_el h
    refine vm_call hR hm11 rfl rfl (fun hcap h9 => cd_row hc q1431 hW (hci hf10) (by omega) (Nat.le_of_ble_eq_true rfl) dX19_is_20 hcap h9) ?_
    refine vm_if h (fun h k1 k2 => pv_if_eq (tgt := 32) hc dX19_is_25 (by decide) h k1 k2) (fun h => ?_) (fun h => ?_)
    · refine vm_l (fun h9 => pv_iconst (0 : Int32) hc dX19_is_32 rfl h9) ?_
      obtain ⟨rfl, rfl⟩ := Prod.mk.inj (Option.some.inj h)
      exact fun _ => ⟨Nat.le_refl _, pv_zret hc hr hQ (by decide) rfl rfl dX19_is_33⟩
    · refine vm_l (fun h9 => pv_iconst (1 : Int32) hc dX19_is_28 rfl h9) ?_
      refine vm_l (fun h9 => pv_goto (tgt := 33) hc dX19_is_29 (by decide) h9) ?_
      obtain ⟨rfl, rfl⟩ := Prod.mk.inj (Option.some.inj h)
      exact fun _ => ⟨Nat.le_refl _, pv_zret hc hr hQ (by decide) rfl rfl dX19_is_33⟩
def cd_is : Nat → Wd → Nat → Nat → Int32 → Option (Int32 × Wd)
  | 0, _, _, _, _ => none
  | n + 1, G, q, a, p => match G.2 q with
    | some (12, _) => x15_is (cd_is n) G q a p
    | some (13, _) => x16_is G q a p
    | some (14, _) => x17_is G q a p
    | some (15, _) => x18_is (cd_is n) G q a p
    | some (16, _) => x19_is (cd_is n) G q a p
    | _ => none
theorem cd_is_ok {l : Launch} {g : Gh} (hW : OKW g) (hX1 : OKX1 g) (hX3 : OKX3 g) (hX4 : OKX4 g) : ∀ (n : Nat) {G : Wd} {q a : Nat} {p v : Int32} {w1 : Wd}, cd_is n G q a p = some (v, w1) → CDx l g (4 + n) G q a p v w1 := by
  intro n
  induction n with
  | zero => intro G q a p v w1 h; cases h
  | succ n ih =>
    intro G q a p v w1 h
    unfold cd_is at h
    split at h
    · rename_i hG
      exact ⟨_, _, _, _, _, _, _, _, _, _, hG, wo_12 hW, wc12 hW, q1461, q1463, q136, q1465, fun U hA => hA.2.2.2.1.1, by omega, by decide, x15_is_ok (fun h => ih h) hW hX1 hX3 hX4 h⟩
    · rename_i hG
      exact ⟨_, _, _, _, _, _, _, _, _, _, hG, wo_13 hW, wc13 hW, q1448, q1450, q137, q1452, fun U hA => hA.2.2.2.1.2.1, by omega, by decide, x16_is_ok hW hX1 hX3 hX4 h⟩
    · rename_i hG
      exact ⟨_, _, _, _, _, _, _, _, _, _, hG, wo_14 hW, wc14 hW, q1441, q1443, q138, q1445, fun U hA => hA.2.2.2.1.2.2.1, by omega, by decide, x17_is_ok hW hX1 hX3 hX4 h⟩
    · rename_i hG
      exact ⟨_, _, _, _, _, _, _, _, _, _, hG, wo_15 hW, wc15 hW, q1433, q1435, q139, q1437, fun U hA => hA.2.2.2.1.2.2.2.1, by omega, by decide, x18_is_ok (fun h => ih h) hW hX1 hX3 hX4 h⟩
    · rename_i hG
      exact ⟨_, _, _, _, _, _, _, _, _, _, hG, wo_16 hW, wc16 hW, q1425, q1427, q140, q1429, fun U hA => hA.2.2.2.1.2.2.2.2, by omega, by decide, x19_is_ok (fun h => ih h) hW hX1 hX3 hX4 h⟩
    · cases h
def x1_said (G : Wd) (a : Nat) (x1 : Int32) : Option (Int32 × Wd) := RD G a 0 (fun s1 => (if (gP s1 31) = none then some ((-1 : Int32), G) else (if (-1 : Int32) ≤ x1 then LP3 (fun (rec5 : Int32 → Int32 → Wd → Option (Int32 × Wd)) (v2 : Int32) (v3 : Int32) (s4 : Wd) => RD s4 a 0 (fun s6 => BD (gP s6 6) (fun b7 => RD s4 b7 2 (fun s8 => (if (gI s8 8) ≤ v3 then (if x1 = (-1 : Int32) then some (v2, s4) else some ((-1 : Int32), s4)) else BD (gP s6 31) (fun b9 => BD2 (cd_is 60 s4 b9 a v3) (fun v13 w10 => MG s4 w10 ((if v13 = 0 then rec5 v2 (v3 + (1 : Int32)) w10 else (if v2 = x1 then some (v3, w10) else rec5 (v2 + (1 : Int32)) (v3 + (1 : Int32)) w10)))))))))) FU (0 : Int32) (0 : Int32) G else some ((-1 : Int32), G))))
set_option maxHeartbeats 4000000 in
theorem x1_said_ok {l : Launch} {g : Gh} (hW : OKW g) (hX1 : OKX1 g) (hX3 : OKX3 g) (hX4 : OKX4 g) {G : Wd} {a : Nat} {x1 : Int32} {r : Int32} {G' : Wd} (hf : x1_said G a x1 = some (r, G')) : MTa l g yX1_said cX1_said 4 (some .int) 66 (G'.1 - G.1) (1200 * (G'.1 - G.1)) G [.ref a, .int x1] (some (.int r)) G' := by
  refine vm_start (by decide) (Nat.le_of_ble_eq_true rfl) ?_
  intro X hl hg hN hc hr hni hR hQ
  subst hl; subst hg
  have h := hf
  unfold x1_said at h
  show VM X G G' G [(0, .ref a), (1, .int x1)] [] 0
  refine vm_l (fun h9 => pv_aload_n 0 hc dX1_said_0 rfl rfl h9) ?_
  obtain ⟨s1, gs1, h⟩ := RD_el h
  refine vm_l (fun h9 => gf_X1_172 hc hX1 gs1 dX1_said_1 h9) ?_
  refine vm_if h (fun h k1 k2 => pv_ifnull (tgt := 12) hc dX1_said_4 (by decide) h k1 k2) (fun h => ?_) (fun h => ?_)
  · refine vm_l (fun h9 => pv_iconst (-1 : Int32) hc dX1_said_12 rfl h9) ?_
    obtain ⟨rfl, rfl⟩ := Prod.mk.inj (Option.some.inj h)
    exact fun _ => ⟨Nat.le_refl _, pv_iret hc hr hQ rfl rfl dX1_said_13⟩
  · refine vm_l (fun h9 => pv_iload_n 1 hc dX1_said_7 rfl rfl h9) ?_
    refine vm_l (fun h9 => pv_iconst (-1 : Int32) hc dX1_said_8 rfl h9) ?_
    refine vm_if h (fun h k1 k2 => pv_icmp_ge (tgt := 14) hc dX1_said_9 (by decide) h k1 k2) (fun h => ?_) (fun h => ?_)
    · refine vm_l (fun h9 => pv_iconst (0 : Int32) hc dX1_said_14 rfl h9) ?_
      refine vm_l (fun h9 => pv_istore_n (L' := [(2, .int (0 : Int32)), (0, .ref a), (1, .int x1)]) hc dX1_said_15 rfl hN (by decide) rfl h9) ?_
      refine vm_l (fun h9 => pv_iconst (0 : Int32) hc dX1_said_16 rfl h9) ?_
      refine vm_l (fun h9 => pv_istore_n (L' := [(3, .int (0 : Int32)), (2, .int (0 : Int32)), (0, .ref a), (1, .int x1)]) hc dX1_said_17 rfl hN (by decide) rfl h9) ?_
      refine vm_sub [2, 3, 1, 0] rfl ?_
      refine LP3_el (P := fun v2 v3 s4 => VM X G G' s4 [(0, .ref a), (1, .int x1), (2, .int v2), (3, .int v3)] [] 18) ?_ FU _ _ _ h
      intro rec5 hrec5 v2 v3 s4 h
      refine vm_l (fun h9 => pv_iload_n 3 hc dX1_said_18 rfl rfl h9) ?_
      refine vm_l (fun h9 => pv_aload_n 0 hc dX1_said_19 rfl rfl h9) ?_
      obtain ⟨s6, gs6, h⟩ := RD_el h
      obtain ⟨b7, hb7, h⟩ := BD_el h
      refine vm_l (fun h9 => gp_X1_76 hc hX1 gs6 hb7 dX1_said_20 h9) ?_
      obtain ⟨s8, gs8, h⟩ := RD_el h
      refine vm_l (fun h9 => gf_X1_189 hc hX3 gs8 dX1_said_23 h9) ?_
      refine vm_if h (fun h k1 k2 => pv_icmp_ge (tgt := 62) hc dX1_said_26 (by decide) h k1 k2) (fun h => ?_) (fun h => ?_)
      · refine vm_l (fun h9 => pv_iload_n 1 hc dX1_said_62 rfl rfl h9) ?_
        refine vm_l (fun h9 => pv_iconst (-1 : Int32) hc dX1_said_63 rfl h9) ?_
        refine vm_ifn h (fun h k1 k2 => pv_icmp_ne (tgt := 71) hc dX1_said_64 (by decide) h k1 k2) (fun h => ?_) (fun h => ?_)
        · refine vm_l (fun h9 => pv_iconst (-1 : Int32) hc dX1_said_71 rfl h9) ?_
          obtain ⟨rfl, rfl⟩ := Prod.mk.inj (Option.some.inj h)
          exact fun _ => ⟨Nat.le_refl _, pv_iret hc hr hQ rfl rfl dX1_said_72⟩
        · refine vm_l (fun h9 => pv_iload_n 2 hc dX1_said_67 rfl rfl h9) ?_
          refine vm_l (fun h9 => pv_goto (tgt := 72) hc dX1_said_68 (by decide) h9) ?_
          obtain ⟨rfl, rfl⟩ := Prod.mk.inj (Option.some.inj h)
          exact fun _ => ⟨Nat.le_refl _, pv_iret hc hr hQ rfl rfl dX1_said_72⟩
      · refine vm_l (fun h9 => pv_aload_n 0 hc dX1_said_29 rfl rfl h9) ?_
        obtain ⟨b9, hb9, h⟩ := BD_el h
        refine vm_l (fun h9 => gp_X1_172 hc hX1 gs6 hb9 dX1_said_30 h9) ?_
        refine vm_l (fun h9 => pv_aload_n 0 hc dX1_said_33 rfl rfl h9) ?_
        refine vm_l (fun h9 => pv_iload_n 3 hc dX1_said_34 rfl rfl h9) ?_
        obtain ⟨v13, w10, hf11, h⟩ := BD2_el h
        obtain ⟨hm12, h⟩ := MG_el h
        refine vm_call hR hm12 rfl rfl (fun hcap h9 => cd_row hc q1421 hW (cd_is_ok hW hX1 hX3 hX4 60 hf11) (by decide) (Nat.le_of_ble_eq_true rfl) dX1_said_35 hcap h9) ?_
        refine vm_ifn h (fun h k1 k2 => pv_if_ne (tgt := 46) hc dX1_said_40 (by decide) h k1 k2) (fun h => ?_) (fun h => ?_)
        · refine vm_l (fun h9 => pv_iload_n 2 hc dX1_said_46 rfl rfl h9) ?_
          refine vm_l (fun h9 => pv_iload_n 1 hc dX1_said_47 rfl rfl h9) ?_
          refine vm_ifn h (fun h k1 k2 => pv_icmp_ne (tgt := 53) hc dX1_said_48 (by decide) h k1 k2) (fun h => ?_) (fun h => ?_)
          · refine vm_l (fun h9 => pv_iinc (L' := [(2, .int (v2 + (1 : Int32))), (0, .ref a), (1, .int x1), (3, .int v3)]) 2 (v2 + (1 : Int32)) hc dX1_said_53 rfl rfl hN (by decide) rfl h9) ?_
            refine vm_l (fun h9 => pv_iinc (L' := [(3, .int (v3 + (1 : Int32))), (2, .int (v2 + (1 : Int32))), (0, .ref a), (1, .int x1)]) 3 (v3 + (1 : Int32)) hc dX1_said_56 rfl rfl hN (by decide) rfl h9) ?_
            refine vm_l (fun h9 => pv_goto (tgt := 18) hc dX1_said_59 (by decide) h9) ?_
            refine vm_sub [2, 3, 1, 0] rfl ?_
            exact hrec5 _ _ _ h
          · refine vm_l (fun h9 => pv_iload_n 3 hc dX1_said_51 rfl rfl h9) ?_
            obtain ⟨rfl, rfl⟩ := Prod.mk.inj (Option.some.inj h)
            exact fun _ => ⟨Nat.le_refl _, pv_iret hc hr hQ rfl rfl dX1_said_52⟩
        · refine vm_l (fun h9 => pv_goto (tgt := 56) hc dX1_said_43 (by decide) h9) ?_
          refine vm_l (fun h9 => pv_iinc (L' := [(3, .int (v3 + (1 : Int32))), (0, .ref a), (1, .int x1), (2, .int v2)]) 3 (v3 + (1 : Int32)) hc dX1_said_56 rfl rfl hN (by decide) rfl h9) ?_
          refine vm_l (fun h9 => pv_goto (tgt := 18) hc dX1_said_59 (by decide) h9) ?_
          refine vm_sub [1, 2, 3, 0] rfl ?_
          exact hrec5 _ _ _ h
    · refine vm_l (fun h9 => pv_iconst (-1 : Int32) hc dX1_said_12 rfl h9) ?_
      obtain ⟨rfl, rfl⟩ := Prod.mk.inj (Option.some.inj h)
      exact fun _ => ⟨Nat.le_refl _, pv_iret hc hr hQ rfl rfl dX1_said_13⟩
