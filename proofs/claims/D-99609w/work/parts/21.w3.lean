/-! The reader of books (written by gen/x6.py) -/
set_option maxRecDepth 100000
def x7_line (G : Wd) (a : Nat) : Option (Option Nat × Wd) := RD G a 0 (fun s3 => BD (x5_is 1 s3 26) (fun v4 => BD (x5_is 1 s3 27) (fun v7 => BD (x5_is 1 s3 28) (fun v10 => JN2 (fun (v11 : Int32) (s12 : Wd) => RD s12 a 0 (fun s14 => JN1 (fun (v15 : Int32) => RD s12 a 0 (fun s19 => BX (x5_must 1 s19 v15 (4 : Int32)) (fun s20 => some (none, (wp s12 a 0 s20))) (fun u22 s20 => LT (wp s12 a 0 s20) (fun w21 => BD (x5_next 1 s20) (fun s25 => LT (wp w21 a 0 s25) (fun w26 => (if v10 = 0 then (if v4 = 0 then (if v7 = 0 then BD (x5_is 1 s25 29) (fun v29 => BX (x5_must 1 s25 v29 (1 : Int32)) (fun s32 => some (none, (wp w26 a 0 s32))) (fun u34 s32 => LT (wp w26 a 0 s32) (fun w33 => BD (x5_next 1 s32) (fun s37 => LT (wp w33 a 0 s37) (fun w38 => BD (gP s37 6) (fun b39 => RD w38 b39 2 (fun s40 => BD (gP s37 6) (fun b41 => RD w38 b41 2 (fun s42 => BX (x5_known 1 s37 (gL s40 3) 5 (gI s42 10)) (fun s45 => some (none, (wp w38 a 0 s45))) (fun v47 s45 => LT (wp w38 a 0 s45) (fun w46 => LT (wn w46 11 r0) (fun w48 => LT w46.1 (fun b49 => RD w48 a 0 (fun s50 => BD (gP s50 6) (fun b51 => RD w48 b51 2 (fun s52 => BD (gP s50 6) (fun b53 => RD w48 b53 2 (fun s54 => BX (x5_known 1 s50 (gL s52 0) 5 (gI s54 7)) (fun s57 => some (none, (wp w48 a 0 s57))) (fun v59 s57 => LT (wp w48 a 0 s57) (fun w58 => BD (x14_init w58 b49 v11 v47 v59) (fun w62 => MG w58 w62 (some (some b49, w62))))))))))))))))))))))) else BD (gP s25 6) (fun b64 => RD w26 b64 2 (fun s65 => BD (gP s25 6) (fun b66 => RD w26 b66 2 (fun s67 => BX (x5_known 1 s25 (gL s65 1) 6 (gI s67 8)) (fun s70 => some (none, (wp w26 a 0 s70))) (fun v72 s70 => LT (wp w26 a 0 s70) (fun w71 => LT (wn w71 10 r0) (fun w73 => LT w71.1 (fun b74 => RD w73 a 0 (fun s75 => BD (gP s75 6) (fun b76 => RD w73 b76 2 (fun s77 => BD (gP s75 6) (fun b78 => RD w73 b78 2 (fun s79 => BX (x5_known 1 s75 (gL s77 0) 5 (gI s79 7)) (fun s82 => some (none, (wp w73 a 0 s82))) (fun v84 s82 => LT (wp w73 a 0 s82) (fun w83 => BD (x13_init w83 b74 v72 v84) (fun w87 => MG w83 w87 (some (some b74, w87))))))))))))))))))) else LT (wn w26 9 r0) (fun w89 => LT w26.1 (fun b90 => RD w89 a 0 (fun s91 => BD (gP s91 6) (fun b92 => RD w89 b92 2 (fun s93 => BD (gP s91 6) (fun b94 => RD w89 b94 2 (fun s95 => BX (x5_known 1 s91 (gL s93 1) 6 (gI s95 8)) (fun s98 => some (none, (wp w89 a 0 s98))) (fun v100 s98 => LT (wp w89 a 0 s98) (fun w99 => BD (x12_init w99 b90 v100) (fun w103 => MG w99 w103 (some (some b90, w103))))))))))))) else LT (wn w26 8 r0) (fun w105 => LT w26.1 (fun b106 => RD w105 a 0 (fun s109 => BX (x5_number 1 s109 (1 : Int32) (60 : Int32)) (fun s110 => some (none, (wp w105 a 0 s110))) (fun v112 s110 => LT (wp w105 a 0 s110) (fun w111 => BD (x11_init w111 b106 v112) (fun w115 => MG w111 w115 (some (some b106, w115))))))))))))))) (fun (j16 : Int32 → Option (Option Nat × Wd)) => (if (40 : Int32) ≤ (gI s14 129) then j16 (0 : Int32) else j16 (1 : Int32))))) (fun (j13 : Int32 → Wd → Option (Option Nat × Wd)) => (if v4 = 0 then (if v7 = 0 then (if v10 = 0 then BD (gP s3 6) (fun b117 => RD G b117 2 (fun s118 => BD (gP s3 6) (fun b119 => RD G b119 2 (fun s120 => BX (x5_look 1 s3 (gL s118 2) 4 (gI s120 9)) (fun s123 => some (none, (wp G a 0 s123))) (fun v125 s123 => LT (wp G a 0 s123) (fun w124 => j13 v125 w124)))))) else j13 (-1 : Int32) G) else j13 (-1 : Int32) G) else j13 (-1 : Int32) G))))))
set_option maxHeartbeats 4000000 in
theorem x7_line_ok {l : Launch} {g : Gh} (hW : OKW g) (hX1 : OKX1 g) (hX3 : OKX3 g) (hX4 : OKX4 g) {G : Wd} {a : Nat} {o : Option Nat} {G' : Wd} (hf : x7_line G a = some (o, G')) : MXa l g yX7_line cX7_line 6 (some (.object "ParlourLeaves$Line")) 10 (G'.1 - G.1) (1200 * (G'.1 - G.1)) (a + 2) "ParlourLeaves$Fault" G [.ref (a + 30)] (o.map (fun v => some (.ref v))) G' := by
  refine vm_startX (by decide) (Nat.le_of_ble_eq_true rfl) ?_
  intro X hl hg hN hc hr htb hR hQ
  subst hl; subst hg
  have h := hf
  unfold x7_line at h
  show VM X G G' G [(0, .ref (a + 30))] [] 0
  refine vm_l (fun h9 => pv_aload_n 0 hc dX7_line_0 rfl rfl h9) ?_
  refine vm_l (fun h9 => pv_str hc ((xstr hX1 _ hc.2.2.2.2.2.1.2.2.1).2.1.2.2.2.2.2.2.2.2.2.2.2.2.2.2.2.2.2.2.2.2.2.2.2.2.2.2.1) dX7_line_1 h9) ?_
  obtain ⟨s3, gs3, h⟩ := RD_el h
  obtain ⟨v4, hf2, h⟩ := BD_el h
  refine vm_l (fun h9 => ca_X7_42 hc hX1 gs3 (x5_is_ok hX1 (j := 1) (by decide) gs3 (by decide) hf2) (by decide) (Nat.le_of_ble_eq_true rfl) dX7_line_3 h9) ?_
  refine vm_l (fun h9 => pv_istore_n (L' := [(1, .int v4), (0, .ref (a + 30))]) hc dX7_line_6 rfl hN (by decide) rfl h9) ?_
  refine vm_l (fun h9 => pv_aload_n 1 hc dX7_line_7 rfl rfl h9) ?_
  refine vm_l (fun h9 => pv_str hc ((xstr hX1 _ hc.2.2.2.2.2.1.2.2.1).2.1.2.2.2.2.2.2.2.2.2.2.2.2.2.2.2.2.2.2.2.2.2.2.2.2.2.2.2.1) dX7_line_8 h9) ?_
  obtain ⟨v7, hf6, h⟩ := BD_el h
  refine vm_l (fun h9 => ca_X7_42 hc hX1 gs3 (x5_is_ok hX1 (j := 1) (by decide) gs3 (by decide) hf6) (by decide) (Nat.le_of_ble_eq_true rfl) dX7_line_10 h9) ?_
  refine vm_l (fun h9 => pv_istore_n (L' := [(2, .int v7), (1, .int v4), (0, .ref (a + 30))]) hc dX7_line_13 rfl hN (by decide) rfl h9) ?_
  refine vm_l (fun h9 => pv_aload_n 2 hc dX7_line_14 rfl rfl h9) ?_
  refine vm_l (fun h9 => pv_str hc ((xstr hX1 _ hc.2.2.2.2.2.1.2.2.1).2.1.2.2.2.2.2.2.2.2.2.2.2.2.2.2.2.2.2.2.2.2.2.2.2.2.2.2.2.2.1) dX7_line_15 h9) ?_
  obtain ⟨v10, hf9, h⟩ := BD_el h
  refine vm_l (fun h9 => ca_X7_42 hc hX1 gs3 (x5_is_ok hX1 (j := 1) (by decide) gs3 (by decide) hf9) (by decide) (Nat.le_of_ble_eq_true rfl) dX7_line_17 h9) ?_
  refine vm_l (fun h9 => pv_istore_n (L' := [(3, .int v10), (2, .int v7), (1, .int v4), (0, .ref (a + 30))]) hc dX7_line_20 rfl hN (by decide) rfl h9) ?_
  refine vm_l (fun h9 => pv_iload_n 2 hc dX7_line_21 rfl rfl h9) ?_
  obtain ⟨j13, hj13, h⟩ := JN2_el (P := fun v11 s12 => VM X G G' s12 [(0, .ref (a + 30)), (1, .int v4), (2, .int v7), (3, .int v10)] [.int v11] 61) h (by
      intro v11 s12 h
      refine vm_l (fun h9 => pv_istore (L' := [(4, .int v11), (0, .ref (a + 30)), (1, .int v4), (2, .int v7), (3, .int v10)]) hc dX7_line_61 hN (by decide) rfl h9) ?_
      refine vm_l (fun h9 => pv_aload_n 1 hc dX7_line_63 rfl rfl h9) ?_
      refine vm_l (fun h9 => pv_aload_n 1 hc dX7_line_64 rfl rfl h9) ?_
      obtain ⟨s14, gs14, h⟩ := RD_el h
      refine vm_l (fun h9 => gf_X7_21 hc hX1 gs14 dX7_line_65 h9) ?_
      refine vm_l (fun h9 => pv_bipush (40 : Int32) hc dX7_line_68 rfl h9) ?_
      obtain ⟨j16, hj16, h⟩ := JN1_el (P := fun v15 => VM X G G' s12 [(0, .ref (a + 30)), (1, .int v4), (2, .int v7), (3, .int v10), (4, .int v11)] [.int v15, .ref (a + 30)] 78) h (by
          intro v15 h
          refine vm_l (fun h9 => pv_iconst (4 : Int32) hc dX7_line_78 rfl h9) ?_
          obtain ⟨s19, gs19, h⟩ := RD_el h
          rcases BX_el h with ⟨s20, hf18, h⟩ | ⟨u22, s20, hf18, h⟩
          · cases h
            exact vm_T0 hR rfl (fun hcap hk9 hn9 => px_backT hc htb (cr_X7_67 hc hX1 gs19 (x5_must_ok hX1 (j := 1) (by decide) gs19 hf18) (by decide) (Nat.le_of_ble_eq_true rfl) dX7_line_79) hcap hQ rfl rfl hk9 hn9)
          obtain ⟨w21, hw21, h⟩ := LT_el h
          refine vm_call0 hw21 rfl hR (fun hcap h9 => px_backRv (cr_X7_67 hc hX1 gs19 (x5_must_ok hX1 (j := 1) (by decide) gs19 hf18) (by decide) (Nat.le_of_ble_eq_true rfl) dX7_line_79) hcap h9) ?_
          refine vm_l (fun h9 => pv_aload_n 0 hc dX7_line_82 rfl rfl h9) ?_
          obtain ⟨s25, hf24, h⟩ := BD_el h
          obtain ⟨w26, hw26, h⟩ := LT_el h
          refine vm_e hw26 rfl (fun h9 => ca_X7_71 hc hX1 (wp_at' hw21) (x5_next_ok hX1 (j := 1) (by decide) (wp_at' hw21) hf24) (by decide) (Nat.le_of_ble_eq_true rfl) dX7_line_83 h9) ?_
          refine vm_l (fun h9 => pv_iload_n 3 hc dX7_line_86 rfl rfl h9) ?_
          refine vm_if h (fun h k1 k2 => pv_if_eq (tgt := 105) hc dX7_line_87 (by decide) h k1 k2) (fun h => ?_) (fun h => ?_)
          · refine vm_l (fun h9 => pv_iload_n 1 hc dX7_line_105 rfl rfl h9) ?_
            refine vm_if h (fun h k1 k2 => pv_if_eq (tgt := 141) hc dX7_line_106 (by decide) h k1 k2) (fun h => ?_) (fun h => ?_)
            · refine vm_l (fun h9 => pv_iload_n 2 hc dX7_line_141 rfl rfl h9) ?_
              refine vm_if h (fun h k1 k2 => pv_if_eq (tgt := 205) hc dX7_line_142 (by decide) h k1 k2) (fun h => ?_) (fun h => ?_)
              · refine vm_l (fun h9 => pv_aload_n 0 hc dX7_line_205 rfl rfl h9) ?_
                refine vm_l (fun h9 => pv_aload_n 0 hc dX7_line_206 rfl rfl h9) ?_
                refine vm_l (fun h9 => pv_str hc ((xstr hX1 _ hc.2.2.2.2.2.1.2.2.1).2.1.2.2.2.2.2.2.2.2.2.2.2.2.2.2.2.2.2.2.2.2.2.2.2.2.2.2.2.2.2.1) dX7_line_207 h9) ?_
                obtain ⟨v29, hf28, h⟩ := BD_el h
                refine vm_l (fun h9 => ca_X7_42 hc hX1 (wp_at' hw26) (x5_is_ok hX1 (j := 1) (by decide) (wp_at' hw26) (by decide) hf28) (by decide) (Nat.le_of_ble_eq_true rfl) dX7_line_209 h9) ?_
                refine vm_l (fun h9 => pv_iconst (1 : Int32) hc dX7_line_212 rfl h9) ?_
                rcases BX_el h with ⟨s32, hf31, h⟩ | ⟨u34, s32, hf31, h⟩
                · cases h
                  exact vm_T0 hR rfl (fun hcap hk9 hn9 => px_backT hc htb (cr_X7_67 hc hX1 (wp_at' hw26) (x5_must_ok hX1 (j := 1) (by decide) (wp_at' hw26) hf31) (by decide) (Nat.le_of_ble_eq_true rfl) dX7_line_213) hcap hQ rfl rfl hk9 hn9)
                obtain ⟨w33, hw33, h⟩ := LT_el h
                refine vm_call0 hw33 rfl hR (fun hcap h9 => px_backRv (cr_X7_67 hc hX1 (wp_at' hw26) (x5_must_ok hX1 (j := 1) (by decide) (wp_at' hw26) hf31) (by decide) (Nat.le_of_ble_eq_true rfl) dX7_line_213) hcap h9) ?_
                refine vm_l (fun h9 => pv_aload_n 0 hc dX7_line_216 rfl rfl h9) ?_
                obtain ⟨s37, hf36, h⟩ := BD_el h
                obtain ⟨w38, hw38, h⟩ := LT_el h
                refine vm_e hw38 rfl (fun h9 => ca_X7_71 hc hX1 (wp_at' hw33) (x5_next_ok hX1 (j := 1) (by decide) (wp_at' hw33) hf36) (by decide) (Nat.le_of_ble_eq_true rfl) dX7_line_217 h9) ?_
                refine vm_l (fun h9 => pv_aload_n 0 hc dX7_line_220 rfl rfl h9) ?_
                refine vm_l (fun h9 => pv_aload_n 0 hc dX7_line_221 rfl rfl h9) ?_
                refine vm_l (fun h9 => gf_X7_3 hc hX1 (wp_at' hw38) dX7_line_222 h9) ?_
                obtain ⟨b39, hb39, h⟩ := BD_el h
                refine vm_l (fun h9 => gp_X7_50 hc hX1 (wp_at' hw38) hb39 dX7_line_225 h9) ?_
                obtain ⟨s40, gs40, h⟩ := RD_el h
                refine vm_l (fun h9 => gf_X7_107 hc hX3 gs40 dX7_line_228 h9) ?_
                refine vm_l (fun h9 => pv_aload_n 0 hc dX7_line_231 rfl rfl h9) ?_
                refine vm_l (fun h9 => gf_X7_3 hc hX1 (wp_at' hw38) dX7_line_232 h9) ?_
                obtain ⟨b41, hb41, h⟩ := BD_el h
                refine vm_l (fun h9 => gp_X7_50 hc hX1 (wp_at' hw38) hb41 dX7_line_235 h9) ?_
                obtain ⟨s42, gs42, h⟩ := RD_el h
                refine vm_l (fun h9 => gf_X7_110 hc hX3 gs42 dX7_line_238 h9) ?_
                rcases BX_el h with ⟨s45, hf44, h⟩ | ⟨v47, s45, hf44, h⟩
                · cases h
                  exact vm_T0 hR rfl (fun hcap hk9 hn9 => px_backT hc htb (cr_X7_90 hc hX1 (wp_at' hw38) (x5_known_ok hX1 hX3 (j := 1) (by decide) (wp_at' hw38) gs40 (c_X3_3 hX3) hf44) (by decide) (Nat.le_of_ble_eq_true rfl) dX7_line_241) hcap hQ rfl rfl hk9 hn9)
                obtain ⟨w46, hw46, h⟩ := LT_el h
                refine vm_call0 hw46 rfl hR (fun hcap h9 => px_backRi (cr_X7_90 hc hX1 (wp_at' hw38) (x5_known_ok hX1 hX3 (j := 1) (by decide) (wp_at' hw38) gs40 (c_X3_3 hX3) hf44) (by decide) (Nat.le_of_ble_eq_true rfl) dX7_line_241) hcap h9) ?_
                refine vm_l (fun h9 => pv_istore (L' := [(5, .int v47), (0, .ref (a + 30)), (1, .int v4), (2, .int v7), (3, .int v10), (4, .int v11)]) hc dX7_line_244 hN (by decide) rfl h9) ?_
                obtain ⟨w48, hw48, h⟩ := LT_el h
                obtain ⟨b49, hb49, h⟩ := LT_el h
                refine vm_new (N := 3) (w1 := w48) hR (by decide) (by rw [hw48]; rfl) (fun hcap h9 => pv_new2 (r := r0) (kd := 11) hw48 hb49 hc (wc11 hW) in_X14 tyX14 tyX14_ok q1239 q1240 q135 (we11 hW _ _) (fun j hj => by match j, hj with | 0, _ => rfl | 1, _ => rfl | 2, _ => rfl) hcap dX7_line_246 h9) ?_
                refine vm_l (fun h9 => pv_dup hc dX7_line_249 rfl h9) ?_
                refine vm_l (fun h9 => pv_iload 5 hc dX7_line_250 rfl h9) ?_
                refine vm_l (fun h9 => pv_iload 0 hc dX7_line_252 rfl h9) ?_
                refine vm_l (fun h9 => pv_aload_n 1 hc dX7_line_254 rfl rfl h9) ?_
                refine vm_l (fun h9 => pv_aload_n 1 hc dX7_line_255 rfl rfl h9) ?_
                obtain ⟨s50, gs50, h⟩ := RD_el h
                refine vm_l (fun h9 => gf_X7_3 hc hX1 gs50 dX7_line_256 h9) ?_
                obtain ⟨b51, hb51, h⟩ := BD_el h
                refine vm_l (fun h9 => gp_X7_50 hc hX1 gs50 hb51 dX7_line_259 h9) ?_
                obtain ⟨s52, gs52, h⟩ := RD_el h
                refine vm_l (fun h9 => gf_X7_96 hc hX3 gs52 dX7_line_262 h9) ?_
                refine vm_l (fun h9 => pv_aload_n 1 hc dX7_line_265 rfl rfl h9) ?_
                refine vm_l (fun h9 => gf_X7_3 hc hX1 gs50 dX7_line_266 h9) ?_
                obtain ⟨b53, hb53, h⟩ := BD_el h
                refine vm_l (fun h9 => gp_X7_50 hc hX1 gs50 hb53 dX7_line_269 h9) ?_
                obtain ⟨s54, gs54, h⟩ := RD_el h
                refine vm_l (fun h9 => gf_X7_99 hc hX3 gs54 dX7_line_272 h9) ?_
                rcases BX_el h with ⟨s57, hf56, h⟩ | ⟨v59, s57, hf56, h⟩
                · cases h
                  exact vm_T0 hR rfl (fun hcap hk9 hn9 => px_backT hc htb (cr_X7_90 hc hX1 gs50 (x5_known_ok hX1 hX3 (j := 1) (by decide) gs50 gs52 (c_X3_0 hX3) hf56) (by decide) (Nat.le_of_ble_eq_true rfl) dX7_line_275) hcap hQ rfl rfl hk9 hn9)
                obtain ⟨w58, hw58, h⟩ := LT_el h
                refine vm_call0 hw58 rfl hR (fun hcap h9 => px_backRi (cr_X7_90 hc hX1 gs50 (x5_known_ok hX1 hX3 (j := 1) (by decide) gs50 gs52 (c_X3_0 hX3) hf56) (by decide) (Nat.le_of_ble_eq_true rfl) dX7_line_275) hcap h9) ?_
                obtain ⟨w62, hf61, h⟩ := BD_el h
                obtain ⟨hm63, h⟩ := MG_el h
                refine vm_call hR hm63 rfl rfl (fun hcap h9 => pv_callI (nA := 3) hc (x14_init_ok hW hX1 hX3 hX4 hf61) q1241 q1242 q135 q1243 rfl (by decide +kernel) ⟨(by decide), by decide⟩ rfl rfl (Nat.le_of_ble_eq_true rfl) dX7_line_278 hcap h9) ?_
                obtain ⟨rfl, rfl⟩ := Prod.mk.inj (Option.some.inj h)
                exact fun _ => ⟨Nat.le_refl _, px_aret hc hr hQ rfl rfl dX7_line_281⟩
              · refine vm_l (fun h9 => pv_aload_n 0 hc dX7_line_145 rfl rfl h9) ?_
                refine vm_l (fun h9 => pv_aload_n 0 hc dX7_line_146 rfl rfl h9) ?_
                refine vm_l (fun h9 => gf_X7_3 hc hX1 (wp_at' hw26) dX7_line_147 h9) ?_
                obtain ⟨b64, hb64, h⟩ := BD_el h
                refine vm_l (fun h9 => gp_X7_50 hc hX1 (wp_at' hw26) hb64 dX7_line_150 h9) ?_
                obtain ⟨s65, gs65, h⟩ := RD_el h
                refine vm_l (fun h9 => gf_X7_84 hc hX3 gs65 dX7_line_153 h9) ?_
                refine vm_l (fun h9 => pv_aload_n 0 hc dX7_line_156 rfl rfl h9) ?_
                refine vm_l (fun h9 => gf_X7_3 hc hX1 (wp_at' hw26) dX7_line_157 h9) ?_
                obtain ⟨b66, hb66, h⟩ := BD_el h
                refine vm_l (fun h9 => gp_X7_50 hc hX1 (wp_at' hw26) hb66 dX7_line_160 h9) ?_
                obtain ⟨s67, gs67, h⟩ := RD_el h
                refine vm_l (fun h9 => gf_X7_87 hc hX3 gs67 dX7_line_163 h9) ?_
                rcases BX_el h with ⟨s70, hf69, h⟩ | ⟨v72, s70, hf69, h⟩
                · cases h
                  exact vm_T0 hR rfl (fun hcap hk9 hn9 => px_backT hc htb (cr_X7_90 hc hX1 (wp_at' hw26) (x5_known_ok hX1 hX3 (j := 1) (by decide) (wp_at' hw26) gs65 (c_X3_1 hX3) hf69) (by decide) (Nat.le_of_ble_eq_true rfl) dX7_line_166) hcap hQ rfl rfl hk9 hn9)
                obtain ⟨w71, hw71, h⟩ := LT_el h
                refine vm_call0 hw71 rfl hR (fun hcap h9 => px_backRi (cr_X7_90 hc hX1 (wp_at' hw26) (x5_known_ok hX1 hX3 (j := 1) (by decide) (wp_at' hw26) gs65 (c_X3_1 hX3) hf69) (by decide) (Nat.le_of_ble_eq_true rfl) dX7_line_166) hcap h9) ?_
                refine vm_l (fun h9 => pv_istore (L' := [(5, .int v72), (0, .ref (a + 30)), (1, .int v4), (2, .int v7), (3, .int v10), (4, .int v11)]) hc dX7_line_169 hN (by decide) rfl h9) ?_
                obtain ⟨w73, hw73, h⟩ := LT_el h
                obtain ⟨b74, hb74, h⟩ := LT_el h
                refine vm_new (N := 2) (w1 := w73) hR (by decide) (by rw [hw73]; rfl) (fun hcap h9 => pv_new2 (r := r0) (kd := 10) hw73 hb74 hc (wc10 hW) in_X13 tyX13 tyX13_ok q1225 q1226 q134 (we10 hW _ _) (fun j hj => by match j, hj with | 0, _ => rfl | 1, _ => rfl) hcap dX7_line_171 h9) ?_
                refine vm_l (fun h9 => pv_dup hc dX7_line_174 rfl h9) ?_
                refine vm_l (fun h9 => pv_iload 0 hc dX7_line_175 rfl h9) ?_
                refine vm_l (fun h9 => pv_aload_n 1 hc dX7_line_177 rfl rfl h9) ?_
                refine vm_l (fun h9 => pv_aload_n 1 hc dX7_line_178 rfl rfl h9) ?_
                obtain ⟨s75, gs75, h⟩ := RD_el h
                refine vm_l (fun h9 => gf_X7_3 hc hX1 gs75 dX7_line_179 h9) ?_
                obtain ⟨b76, hb76, h⟩ := BD_el h
                refine vm_l (fun h9 => gp_X7_50 hc hX1 gs75 hb76 dX7_line_182 h9) ?_
                obtain ⟨s77, gs77, h⟩ := RD_el h
                refine vm_l (fun h9 => gf_X7_96 hc hX3 gs77 dX7_line_185 h9) ?_
                refine vm_l (fun h9 => pv_aload_n 1 hc dX7_line_188 rfl rfl h9) ?_
                refine vm_l (fun h9 => gf_X7_3 hc hX1 gs75 dX7_line_189 h9) ?_
                obtain ⟨b78, hb78, h⟩ := BD_el h
                refine vm_l (fun h9 => gp_X7_50 hc hX1 gs75 hb78 dX7_line_192 h9) ?_
                obtain ⟨s79, gs79, h⟩ := RD_el h
                refine vm_l (fun h9 => gf_X7_99 hc hX3 gs79 dX7_line_195 h9) ?_
                rcases BX_el h with ⟨s82, hf81, h⟩ | ⟨v84, s82, hf81, h⟩
                · cases h
                  exact vm_T0 hR rfl (fun hcap hk9 hn9 => px_backT hc htb (cr_X7_90 hc hX1 gs75 (x5_known_ok hX1 hX3 (j := 1) (by decide) gs75 gs77 (c_X3_0 hX3) hf81) (by decide) (Nat.le_of_ble_eq_true rfl) dX7_line_198) hcap hQ rfl rfl hk9 hn9)
                obtain ⟨w83, hw83, h⟩ := LT_el h
                refine vm_call0 hw83 rfl hR (fun hcap h9 => px_backRi (cr_X7_90 hc hX1 gs75 (x5_known_ok hX1 hX3 (j := 1) (by decide) gs75 gs77 (c_X3_0 hX3) hf81) (by decide) (Nat.le_of_ble_eq_true rfl) dX7_line_198) hcap h9) ?_
                obtain ⟨w87, hf86, h⟩ := BD_el h
                obtain ⟨hm88, h⟩ := MG_el h
                refine vm_call hR hm88 rfl rfl (fun hcap h9 => pv_callI (nA := 2) hc (x13_init_ok hW hX1 hX3 hX4 hf86) q1227 q1228 q134 q1229 rfl (by decide +kernel) ⟨(by decide), by decide⟩ rfl rfl (Nat.le_of_ble_eq_true rfl) dX7_line_201 hcap h9) ?_
                obtain ⟨rfl, rfl⟩ := Prod.mk.inj (Option.some.inj h)
                exact fun _ => ⟨Nat.le_refl _, px_aret hc hr hQ rfl rfl dX7_line_204⟩
            · obtain ⟨w89, hw89, h⟩ := LT_el h
              obtain ⟨b90, hb90, h⟩ := LT_el h
              refine vm_new (N := 1) (w1 := w89) hR (by decide) (by rw [hw89]; rfl) (fun hcap h9 => pv_new2 (r := r0) (kd := 9) hw89 hb90 hc (wc9 hW) in_X12 tyX12 tyX12_ok q1212 q1213 q133 (we9 hW _ _) (fun j hj => by match j, hj with | 0, _ => rfl) hcap dX7_line_109 h9) ?_
              refine vm_l (fun h9 => pv_dup hc dX7_line_112 rfl h9) ?_
              refine vm_l (fun h9 => pv_aload_n 0 hc dX7_line_113 rfl rfl h9) ?_
              refine vm_l (fun h9 => pv_aload_n 0 hc dX7_line_114 rfl rfl h9) ?_
              obtain ⟨s91, gs91, h⟩ := RD_el h
              refine vm_l (fun h9 => gf_X7_3 hc hX1 gs91 dX7_line_115 h9) ?_
              obtain ⟨b92, hb92, h⟩ := BD_el h
              refine vm_l (fun h9 => gp_X7_50 hc hX1 gs91 hb92 dX7_line_118 h9) ?_
              obtain ⟨s93, gs93, h⟩ := RD_el h
              refine vm_l (fun h9 => gf_X7_84 hc hX3 gs93 dX7_line_121 h9) ?_
              refine vm_l (fun h9 => pv_aload_n 0 hc dX7_line_124 rfl rfl h9) ?_
              refine vm_l (fun h9 => gf_X7_3 hc hX1 gs91 dX7_line_125 h9) ?_
              obtain ⟨b94, hb94, h⟩ := BD_el h
              refine vm_l (fun h9 => gp_X7_50 hc hX1 gs91 hb94 dX7_line_128 h9) ?_
              obtain ⟨s95, gs95, h⟩ := RD_el h
              refine vm_l (fun h9 => gf_X7_87 hc hX3 gs95 dX7_line_131 h9) ?_
              rcases BX_el h with ⟨s98, hf97, h⟩ | ⟨v100, s98, hf97, h⟩
              · cases h
                exact vm_T0 hR rfl (fun hcap hk9 hn9 => px_backT hc htb (cr_X7_90 hc hX1 gs91 (x5_known_ok hX1 hX3 (j := 1) (by decide) gs91 gs93 (c_X3_1 hX3) hf97) (by decide) (Nat.le_of_ble_eq_true rfl) dX7_line_134) hcap hQ rfl rfl hk9 hn9)
              obtain ⟨w99, hw99, h⟩ := LT_el h
              refine vm_call0 hw99 rfl hR (fun hcap h9 => px_backRi (cr_X7_90 hc hX1 gs91 (x5_known_ok hX1 hX3 (j := 1) (by decide) gs91 gs93 (c_X3_1 hX3) hf97) (by decide) (Nat.le_of_ble_eq_true rfl) dX7_line_134) hcap h9) ?_
              obtain ⟨w103, hf102, h⟩ := BD_el h
              obtain ⟨hm104, h⟩ := MG_el h
              refine vm_call hR hm104 rfl rfl (fun hcap h9 => pv_callI (nA := 1) hc (x12_init_ok hW hX1 hX3 hX4 hf102) q1217 q1218 q133 q1219 rfl (by decide +kernel) ⟨(by decide), by decide⟩ rfl rfl (Nat.le_of_ble_eq_true rfl) dX7_line_137 hcap h9) ?_
              obtain ⟨rfl, rfl⟩ := Prod.mk.inj (Option.some.inj h)
              exact fun _ => ⟨Nat.le_refl _, px_aret hc hr hQ rfl rfl dX7_line_140⟩
          · obtain ⟨w105, hw105, h⟩ := LT_el h
            obtain ⟨b106, hb106, h⟩ := LT_el h
            refine vm_new (N := 1) (w1 := w105) hR (by decide) (by rw [hw105]; rfl) (fun hcap h9 => pv_new2 (r := r0) (kd := 8) hw105 hb106 hc (wc8 hW) in_X11 tyX11 tyX11_ok q1196 q1197 q132 (we8 hW _ _) (fun j hj => by match j, hj with | 0, _ => rfl) hcap dX7_line_90 h9) ?_
            refine vm_l (fun h9 => pv_dup hc dX7_line_93 rfl h9) ?_
            refine vm_l (fun h9 => pv_aload_n 0 hc dX7_line_94 rfl rfl h9) ?_
            refine vm_l (fun h9 => pv_iconst (1 : Int32) hc dX7_line_95 rfl h9) ?_
            refine vm_l (fun h9 => pv_bipush (60 : Int32) hc dX7_line_96 rfl h9) ?_
            obtain ⟨s109, gs109, h⟩ := RD_el h
            rcases BX_el h with ⟨s110, hf108, h⟩ | ⟨v112, s110, hf108, h⟩
            · cases h
              exact vm_T0 hR rfl (fun hcap hk9 hn9 => px_backT hc htb (cr_X7_76 hc hX1 gs109 (x5_number_ok hX1 (j := 1) (by decide) gs109 hf108) (by decide) (Nat.le_of_ble_eq_true rfl) dX7_line_98) hcap hQ rfl rfl hk9 hn9)
            obtain ⟨w111, hw111, h⟩ := LT_el h
            refine vm_call0 hw111 rfl hR (fun hcap h9 => px_backRi (cr_X7_76 hc hX1 gs109 (x5_number_ok hX1 (j := 1) (by decide) gs109 hf108) (by decide) (Nat.le_of_ble_eq_true rfl) dX7_line_98) hcap h9) ?_
            obtain ⟨w115, hf114, h⟩ := BD_el h
            obtain ⟨hm116, h⟩ := MG_el h
            refine vm_call hR hm116 rfl rfl (fun hcap h9 => pv_callI (nA := 1) hc (x11_init_ok hW hX1 hX3 hX4 hf114) q1201 q1202 q132 q1203 rfl (by decide +kernel) ⟨(by decide), by decide⟩ rfl rfl (Nat.le_of_ble_eq_true rfl) dX7_line_101 hcap h9) ?_
            obtain ⟨rfl, rfl⟩ := Prod.mk.inj (Option.some.inj h)
            exact fun _ => ⟨Nat.le_refl _, px_aret hc hr hQ rfl rfl dX7_line_104⟩)
      refine vm_if h (fun h k1 k2 => pv_icmp_ge (tgt := 77) hc dX7_line_70 (by decide) h k1 k2) (fun h => ?_) (fun h => ?_)
      · refine vm_l (fun h9 => pv_iconst (0 : Int32) hc dX7_line_77 rfl h9) ?_
        refine vm_sub [1, 2, 3, 4, 0] rfl ?_
        exact hj16 _ h
      · refine vm_l (fun h9 => pv_iconst (1 : Int32) hc dX7_line_73 rfl h9) ?_
        refine vm_l (fun h9 => pv_goto (tgt := 78) hc dX7_line_74 (by decide) h9) ?_
        refine vm_sub [1, 2, 3, 4, 0] rfl ?_
        exact hj16 _ h)
  refine vm_ifn h (fun h k1 k2 => pv_if_ne (tgt := 33) hc dX7_line_22 (by decide) h k1 k2) (fun h => ?_) (fun h => ?_)
  · refine vm_l (fun h9 => pv_iconst (-1 : Int32) hc dX7_line_33 rfl h9) ?_
    refine vm_l (fun h9 => pv_goto (tgt := 61) hc dX7_line_34 (by decide) h9) ?_
    refine vm_sub [3, 2, 1, 0] rfl ?_
    exact hj13 _ _ h
  · refine vm_l (fun h9 => pv_iload_n 1 hc dX7_line_25 rfl rfl h9) ?_
    refine vm_ifn h (fun h k1 k2 => pv_if_ne (tgt := 33) hc dX7_line_26 (by decide) h k1 k2) (fun h => ?_) (fun h => ?_)
    · refine vm_l (fun h9 => pv_iconst (-1 : Int32) hc dX7_line_33 rfl h9) ?_
      refine vm_l (fun h9 => pv_goto (tgt := 61) hc dX7_line_34 (by decide) h9) ?_
      refine vm_sub [3, 2, 1, 0] rfl ?_
      exact hj13 _ _ h
    · refine vm_l (fun h9 => pv_iload_n 0 hc dX7_line_29 rfl rfl h9) ?_
      refine vm_if h (fun h k1 k2 => pv_if_eq (tgt := 37) hc dX7_line_30 (by decide) h k1 k2) (fun h => ?_) (fun h => ?_)
      · refine vm_l (fun h9 => pv_aload_n 3 hc dX7_line_37 rfl rfl h9) ?_
        refine vm_l (fun h9 => pv_aload_n 3 hc dX7_line_38 rfl rfl h9) ?_
        refine vm_l (fun h9 => gf_X7_3 hc hX1 gs3 dX7_line_39 h9) ?_
        obtain ⟨b117, hb117, h⟩ := BD_el h
        refine vm_l (fun h9 => gp_X7_50 hc hX1 gs3 hb117 dX7_line_42 h9) ?_
        obtain ⟨s118, gs118, h⟩ := RD_el h
        refine vm_l (fun h9 => gf_X7_54 hc hX3 gs118 dX7_line_45 h9) ?_
        refine vm_l (fun h9 => pv_aload_n 3 hc dX7_line_48 rfl rfl h9) ?_
        refine vm_l (fun h9 => gf_X7_3 hc hX1 gs3 dX7_line_49 h9) ?_
        obtain ⟨b119, hb119, h⟩ := BD_el h
        refine vm_l (fun h9 => gp_X7_50 hc hX1 gs3 hb119 dX7_line_52 h9) ?_
        obtain ⟨s120, gs120, h⟩ := RD_el h
        refine vm_l (fun h9 => gf_X7_60 hc hX3 gs120 dX7_line_55 h9) ?_
        rcases BX_el h with ⟨s123, hf122, h⟩ | ⟨v125, s123, hf122, h⟩
        · cases h
          exact vm_T0 hR rfl (fun hcap hk9 hn9 => px_backT hc htb (cr_X7_63 hc hX1 gs3 (x5_look_ok hX1 hX3 (j := 1) (by decide) gs3 gs118 (c_X3_2 hX3) hf122) (by decide) (Nat.le_of_ble_eq_true rfl) dX7_line_58) hcap hQ rfl rfl hk9 hn9)
        obtain ⟨w124, hw124, h⟩ := LT_el h
        refine vm_call0 hw124 rfl hR (fun hcap h9 => px_backRi (cr_X7_63 hc hX1 gs3 (x5_look_ok hX1 hX3 (j := 1) (by decide) gs3 gs118 (c_X3_2 hX3) hf122) (by decide) (Nat.le_of_ble_eq_true rfl) dX7_line_58) hcap h9) ?_
        refine vm_sub [3, 2, 1, 0] rfl ?_
        exact hj13 _ _ h
      · refine vm_l (fun h9 => pv_iconst (-1 : Int32) hc dX7_line_33 rfl h9) ?_
        refine vm_l (fun h9 => pv_goto (tgt := 61) hc dX7_line_34 (by decide) h9) ?_
        refine vm_sub [3, 2, 1, 0] rfl ?_
        exact hj13 _ _ h
def x7_read (G : Wd) (a : Nat) : Option (Option Unit × Wd) := RD G a 0 (fun s1 => LT (sI s1 129 (0 : Int32)) (fun s2 => LT (wp G a 0 s2) (fun w3 => BD (x5_begin 1 s2) (fun s6 => LT (wp w3 a 0 s6) (fun w7 => LP1 (fun (rec9 : Wd → Option (Option Unit × Wd)) (s8 : Wd) => RD s8 a 0 (fun s10 => (if (gI s10 123) = 0 then some (some (), s8) else BXW (x7_line s8 a) (fun w13 => MG s8 w13 (some (none, w13))) (fun v14 w13 => MG s8 w13 (RD w13 a 0 (fun s18 => BX (x5_sign 1 s18 (59 : Int32)) (fun s19 => some (none, (wp w13 a 0 s19))) (fun u21 s19 => LT (wp w13 a 0 s19) (fun w20 => IX (gI s19 129) 40 (fun i22 => LNK w20 v14 (LT (sQ s19 128 i22 (some v14)) (fun s24 => LT (wp w20 a 0 s24) (fun w25 => LT (sI s24 129 ((gI s24 129) + (1 : Int32))) (fun s26 => LT (wp w25 a 0 s26) (fun w27 => rec9 w27)))))))))))))) FU w7)))))
set_option maxHeartbeats 4000000 in
theorem x7_read_ok {l : Launch} {g : Gh} (hW : OKW g) (hX1 : OKX1 g) (hX3 : OKX3 g) (hX4 : OKX4 g) {G : Wd} {a : Nat} {o : Option Unit} {G' : Wd} (hf : x7_read G a = some (o, G')) : MXa l g yX7_read cX7_read 2 none 11 (G'.1 - G.1) (1200 * (G'.1 - G.1)) (a + 2) "ParlourLeaves$Fault" G [.ref (a + 30)] (o.map (fun _ => none)) G' := by
  refine vm_startX (by decide) (Nat.le_of_ble_eq_true rfl) ?_
  intro X hl hg hN hc hr htb hR hQ
  subst hl; subst hg
  have h := hf
  unfold x7_read at h
  show VM X G G' G [(0, .ref (a + 30))] [] 0
  refine vm_l (fun h9 => pv_aload_n 0 hc dX7_read_0 rfl rfl h9) ?_
  refine vm_l (fun h9 => pv_iconst (0 : Int32) hc dX7_read_1 rfl h9) ?_
  obtain ⟨s1, gs1, h⟩ := RD_el h
  obtain ⟨s2, hs2, h⟩ := LT_el h
  obtain ⟨w3, hw3, h⟩ := LT_el h
  refine vm_e hw3 rfl (fun h9 => pf_X7_21 hc hX1 gs1 hs2 rfl dX7_read_2 h9) ?_
  refine vm_l (fun h9 => pv_aload_n 0 hc dX7_read_5 rfl rfl h9) ?_
  obtain ⟨s6, hf5, h⟩ := BD_el h
  obtain ⟨w7, hw7, h⟩ := LT_el h
  refine vm_e hw7 rfl (fun h9 => ca_X7_25 hc hX1 (wp_at' hw3) (x5_begin_ok hX1 (j := 1) (by decide) (wp_at' hw3) hf5) (by decide) (Nat.le_of_ble_eq_true rfl) dX7_read_6 h9) ?_
  refine LP1_el (P := fun s8 => VM X G G' s8 [(0, .ref (a + 30))] [] 9) ?_ FU _ h
  intro rec9 hrec9 s8 h
  refine vm_l (fun h9 => pv_aload_n 0 hc dX7_read_9 rfl rfl h9) ?_
  obtain ⟨s10, gs10, h⟩ := RD_el h
  refine vm_l (fun h9 => gf_X7_29 hc hX1 gs10 dX7_read_10 h9) ?_
  refine vm_if h (fun h k1 k2 => pv_if_eq (tgt := 50) hc dX7_read_13 (by decide) h k1 k2) (fun h => ?_) (fun h => ?_)
  · cases h
    exact fun _ => ⟨Nat.le_refl _, px_vret hc hr hQ rfl rfl dX7_read_50⟩
  · refine vm_l (fun h9 => pv_aload_n 0 hc dX7_read_16 rfl rfl h9) ?_
    rcases BXW_el h with ⟨w13, hf12, h⟩ | ⟨v14, w13, hf12, h⟩
    · obtain ⟨hm15, h⟩ := MG_el h
      cases h
      exact vm_T hR hm15 rfl rfl (fun hcap hk9 hn9 => px_backT hc htb (px_runV (nA := 0) hc (x7_line_ok hW hX1 hX3 hX4 hf12) gs10 (o_X7 hX1) (xk5 hX1) (lw_V q1177 q1179 qs24 q117 q1180) (by decide +kernel) ⟨(by decide), by decide⟩ rfl rfl (Nat.le_of_ble_eq_true rfl) dX7_read_17) hcap hQ rfl rfl hk9 hn9)
    obtain ⟨hm15, h⟩ := MG_el h
    refine vm_call hR hm15 rfl rfl (fun hcap h9 => px_backRa (px_runV (nA := 0) hc (x7_line_ok hW hX1 hX3 hX4 hf12) gs10 (o_X7 hX1) (xk5 hX1) (lw_V q1177 q1179 qs24 q117 q1180) (by decide +kernel) ⟨(by decide), by decide⟩ rfl rfl (Nat.le_of_ble_eq_true rfl) dX7_read_17) hcap h9) ?_
    refine vm_l (fun h9 => pv_astore_n (L' := [(1, .ref v14), (0, .ref (a + 30))]) hc dX7_read_20 rfl hN (by decide) rfl h9) ?_
    refine vm_l (fun h9 => pv_aload_n 1 hc dX7_read_21 rfl rfl h9) ?_
    refine vm_l (fun h9 => pv_bipush (59 : Int32) hc dX7_read_22 rfl h9) ?_
    obtain ⟨s18, gs18, h⟩ := RD_el h
    rcases BX_el h with ⟨s19, hf17, h⟩ | ⟨u21, s19, hf17, h⟩
    · cases h
      exact vm_T0 hR rfl (fun hcap hk9 hn9 => px_backT hc htb (cr_X7_36 hc hX1 gs18 (x5_sign_ok hX1 (j := 1) (by decide) gs18 hf17) (by decide) (Nat.le_of_ble_eq_true rfl) dX7_read_24) hcap hQ rfl rfl hk9 hn9)
    obtain ⟨w20, hw20, h⟩ := LT_el h
    refine vm_call0 hw20 rfl hR (fun hcap h9 => px_backRv (cr_X7_36 hc hX1 gs18 (x5_sign_ok hX1 (j := 1) (by decide) gs18 hf17) (by decide) (Nat.le_of_ble_eq_true rfl) dX7_read_24) hcap h9) ?_
    refine vm_l (fun h9 => pv_aload_n 1 hc dX7_read_27 rfl rfl h9) ?_
    refine vm_l (fun h9 => gf_X7_17 hc hX1 (wp_at' hw20) dX7_read_28 h9) ?_
    refine vm_l (fun h9 => pv_aload_n 1 hc dX7_read_31 rfl rfl h9) ?_
    refine vm_l (fun h9 => gf_X7_21 hc hX1 (wp_at' hw20) dX7_read_32 h9) ?_
    refine vm_l (fun h9 => pv_aload_n 0 hc dX7_read_35 rfl rfl h9) ?_
    obtain ⟨i22, hi22, h⟩ := IX_el h
    obtain ⟨hl23, h⟩ := LNK_el h
    obtain ⟨s24, hs24, h⟩ := LT_el h
    obtain ⟨w25, hw25, h⟩ := LT_el h
    refine vm_e hw25 rfl (fun h9 => (by obtain ⟨kd1, ci1, C1, T1, N1, fs1, s1, q1, q2, q3, q4⟩ := ln_obj hW (wax hW _ hc.2.2.2.2.2.1.2.2.1) hl23; exact pv_aast hc (wp_at' hw20) (v_row hX1) 7 (xt7 hX1) q1 q2 q3 (Or.inr q4) hi22 (r' := s24) (by subst hs24; rw [xenc hX1, xenc hX1]; rfl) dX7_read_36 h9)) ?_
    refine vm_l (fun h9 => pv_aload_n 1 hc dX7_read_37 rfl rfl h9) ?_
    refine vm_l (fun h9 => pv_dup hc dX7_read_38 rfl h9) ?_
    refine vm_l (fun h9 => gf_X7_21 hc hX1 (wp_at' hw25) dX7_read_39 h9) ?_
    refine vm_l (fun h9 => pv_iconst (1 : Int32) hc dX7_read_42 rfl h9) ?_
    refine vm_l (fun h9 => pv_iadd hc dX7_read_43 h9) ?_
    obtain ⟨s26, hs26, h⟩ := LT_el h
    obtain ⟨w27, hw27, h⟩ := LT_el h
    refine vm_e hw27 rfl (fun h9 => pf_X7_21 hc hX1 (wp_at' hw25) hs26 rfl dX7_read_44 h9) ?_
    refine vm_l (fun h9 => pv_goto (tgt := 9) hc dX7_read_47 (by decide) h9) ?_
    refine vm_sub [1] rfl ?_
    exact hrec9 _ h
