/-! The readers' methods (written by gen/x4.py) -/
set_option maxRecDepth 100000
section BC4
variable {X : CX} {cc : ByteArray} {ht k n hy : Nat} {G G1 : Wd} {L : List (Nat × Value)} {st : List Value} {pc a : Nat} {r : Rec}
theorem cr_X1_165 {x0 : Nat} {mc ms fa : Nat} {E1 : String} {ov : Option (Option Value)} (hc : OK X cc RX1 ht) (hM : OKX1 (xg X)) (hG : G.2 a = some (0, r)) (hT : MXa (xl X) (xg X) yX6_read cX6_read 4 (some .int) hy mc ms fa E1 G [.ref (a + 29), .ref x0] ov G1) (hh : hy < ht) (hst : (st.map fun v => v.category).sum ≤ 8) (d : decode cc pc = .ok (.invokevirtual 165, 3)) : ∀ (H : Heap) (locs : List Loc) (ls : Array Slot), GW (xg X) G H → lv_has ls (xn X) L → k + mc ≤ (xR X).cells → n + ms ≤ (xR X).slots → vy_Run (xp X) (xl X) (xe X) (xR X) (xs X) (xm X) (xa X) (xb X) (xt X) (xc X) H locs k n mc ms (F0 (xm X) pc ls (.ref x0 :: .ref (a + 29) :: st)) st (QfX (xg X) ov G1 (xa X)) (XfX (xg X) fa E1 ov G1) (fun q => gb (xg X) ≤ q) := px_runV (nA := 1) hc hT hG (o_X6 hM) (xk4 hM) (lw_V q652 q653 q654 q116 q655) (by decide +kernel) ⟨hh, by decide⟩ rfl rfl hst d
theorem ca_X7_25  (hc : OK X cc RX7 ht) (hM : OKX1 (xg X)) (hG : G.2 a = some (0, r)) (hT : MT (xl X) (xg X) yX5_begin cX5_begin 1 none hy G [.ref (a + 30)] none G1) (hh : hy < ht) (hst : (st.map fun v => v.category).sum ≤ 8) (d : decode cc pc = .ok (.invokevirtual 25, 3)) (h : V X k n G1 L st (pc + 3)) : V X k n G L (.ref (a + 30) :: st) pc := fun hk hn => pv_callU (nA := 0) (owner := RX5) (x := ⟨RX7, "begin", "()V"⟩) hc hT hG (o_X7 hM) (xk5 hM) (lw_app (lw_5 q1174 q1175 q1176 q660 q115) (lw_meth q661)) rfl (by decide +kernel) ⟨hh, by decide⟩ rfl rfl hst d ⟨hk, hn⟩ h hk hn
theorem cr_X7_36 {x0 : Int32} {mc ms fa : Nat} {E1 : String} {ov : Option (Option Value)} (hc : OK X cc RX7 ht) (hM : OKX1 (xg X)) (hG : G.2 a = some (0, r)) (hT : MXa (xl X) (xg X) yX5_sign cX5_sign 2 none hy mc ms fa E1 G [.ref (a + 30), .int x0] ov G1) (hh : hy < ht) (hst : (st.map fun v => v.category).sum ≤ 8) (d : decode cc pc = .ok (.invokevirtual 36, 3)) : ∀ (H : Heap) (locs : List Loc) (ls : Array Slot), GW (xg X) G H → lv_has ls (xn X) L → k + mc ≤ (xR X).cells → n + ms ≤ (xR X).slots → vy_Run (xp X) (xl X) (xe X) (xR X) (xs X) (xm X) (xa X) (xb X) (xt X) (xc X) H locs k n mc ms (F0 (xm X) pc ls (.int x0 :: .ref (a + 30) :: st)) st (QfX (xg X) ov G1 (xa X)) (XfX (xg X) fa E1 ov G1) (fun q => gb (xg X) ≤ q) := px_runU (nA := 1) (owner := RX5) (x := ⟨RX7, "sign", "(I)V"⟩) hc hT hG (o_X7 hM) (xk5 hM) (lw_app (lw_5 q1255 q1256 q1257 q829 q115) (lw_meth q830)) rfl (by decide +kernel) ⟨hh, by decide⟩ rfl rfl hst d
theorem ca_X7_42 {x0 : Nat} {v : Int32} (hc : OK X cc RX7 ht) (hM : OKX1 (xg X)) (hG : G.2 a = some (0, r)) (hT : MT (xl X) (xg X) yX5_is cX5_is 3 (some .boolean) hy G [.ref (a + 30), .ref x0] (some (.int v)) G1) (hh : hy < ht) (hst : (st.map fun v => v.category).sum ≤ 8) (d : decode cc pc = .ok (.invokevirtual 42, 3)) (h : V X k n G1 L (.int v :: st) (pc + 3)) : V X k n G L (.ref x0 :: .ref (a + 30) :: st) pc := fun hk hn => pv_callU (nA := 1) (owner := RX5) (x := ⟨RX7, "is", "(Ljava/lang/String;)Z"⟩) hc hT hG (o_X7 hM) (xk5 hM) (lw_app (lw_5 q1182 q1183 q1184 q695 q115) (lw_meth q700)) rfl (by decide +kernel) ⟨hh, by decide⟩ rfl rfl hst d ⟨hk, hn⟩ h hk hn
theorem cr_X7_63 {x0 : Nat} {x1 : Int32} {mc ms fa : Nat} {E1 : String} {ov : Option (Option Value)} (hc : OK X cc RX7 ht) (hM : OKX1 (xg X)) (hG : G.2 a = some (0, r)) (hT : MXa (xl X) (xg X) yX5_look cX5_look 4 (some .int) hy mc ms fa E1 G [.ref (a + 30), .ref x0, .int x1] ov G1) (hh : hy < ht) (hst : (st.map fun v => v.category).sum ≤ 8) (d : decode cc pc = .ok (.invokevirtual 63, 3)) : ∀ (H : Heap) (locs : List Loc) (ls : Array Slot), GW (xg X) G H → lv_has ls (xn X) L → k + mc ≤ (xR X).cells → n + ms ≤ (xR X).slots → vy_Run (xp X) (xl X) (xe X) (xR X) (xs X) (xm X) (xa X) (xb X) (xt X) (xc X) H locs k n mc ms (F0 (xm X) pc ls (.int x1 :: .ref x0 :: .ref (a + 30) :: st)) st (QfX (xg X) ov G1 (xa X)) (XfX (xg X) fa E1 ov G1) (fun q => gb (xg X) ≤ q) := px_runU (nA := 2) (owner := RX5) (x := ⟨RX7, "look", "([JI)I"⟩) hc hT hG (o_X7 hM) (xk5 hM) (lw_app (lw_5 q1187 q1188 q1189 q801 q115) (lw_meth q806)) rfl (by decide +kernel) ⟨hh, by decide⟩ rfl rfl hst d
theorem cr_X7_67 {x0 : Int32} {x1 : Int32} {mc ms fa : Nat} {E1 : String} {ov : Option (Option Value)} (hc : OK X cc RX7 ht) (hM : OKX1 (xg X)) (hG : G.2 a = some (0, r)) (hT : MXa (xl X) (xg X) yX5_must cX5_must 3 none hy mc ms fa E1 G [.ref (a + 30), .int x0, .int x1] ov G1) (hh : hy < ht) (hst : (st.map fun v => v.category).sum ≤ 8) (d : decode cc pc = .ok (.invokevirtual 67, 3)) : ∀ (H : Heap) (locs : List Loc) (ls : Array Slot), GW (xg X) G H → lv_has ls (xn X) L → k + mc ≤ (xR X).cells → n + ms ≤ (xR X).slots → vy_Run (xp X) (xl X) (xe X) (xR X) (xs X) (xm X) (xa X) (xb X) (xt X) (xc X) H locs k n mc ms (F0 (xm X) pc ls (.int x1 :: .int x0 :: .ref (a + 30) :: st)) st (QfX (xg X) ov G1 (xa X)) (XfX (xg X) fa E1 ov G1) (fun q => gb (xg X) ≤ q) := px_runU (nA := 2) (owner := RX5) (x := ⟨RX7, "must", "(ZI)V"⟩) hc hT hG (o_X7 hM) (xk5 hM) (lw_app (lw_5 q1190 q1191 q1192 q753 q115) (lw_meth q754)) rfl (by decide +kernel) ⟨hh, by decide⟩ rfl rfl hst d
theorem ca_X7_71  (hc : OK X cc RX7 ht) (hM : OKX1 (xg X)) (hG : G.2 a = some (0, r)) (hT : MT (xl X) (xg X) yX5_next cX5_next 2 none hy G [.ref (a + 30)] none G1) (hh : hy < ht) (hst : (st.map fun v => v.category).sum ≤ 8) (d : decode cc pc = .ok (.invokevirtual 71, 3)) (h : V X k n G1 L st (pc + 3)) : V X k n G L (.ref (a + 30) :: st) pc := fun hk hn => pv_callU (nA := 0) (owner := RX5) (x := ⟨RX7, "next", "()V"⟩) hc hT hG (o_X7 hM) (xk5 hM) (lw_app (lw_5 q1193 q1194 q1195 q663 q115) (lw_meth q668)) rfl (by decide +kernel) ⟨hh, by decide⟩ rfl rfl hst d ⟨hk, hn⟩ h hk hn
theorem cr_X7_76 {x0 : Int32} {x1 : Int32} {mc ms fa : Nat} {E1 : String} {ov : Option (Option Value)} (hc : OK X cc RX7 ht) (hM : OKX1 (xg X)) (hG : G.2 a = some (0, r)) (hT : MXa (xl X) (xg X) yX5_number cX5_number 4 (some .int) hy mc ms fa E1 G [.ref (a + 30), .int x0, .int x1] ov G1) (hh : hy < ht) (hst : (st.map fun v => v.category).sum ≤ 8) (d : decode cc pc = .ok (.invokevirtual 76, 3)) : ∀ (H : Heap) (locs : List Loc) (ls : Array Slot), GW (xg X) G H → lv_has ls (xn X) L → k + mc ≤ (xR X).cells → n + ms ≤ (xR X).slots → vy_Run (xp X) (xl X) (xe X) (xR X) (xs X) (xm X) (xa X) (xb X) (xt X) (xc X) H locs k n mc ms (F0 (xm X) pc ls (.int x1 :: .int x0 :: .ref (a + 30) :: st)) st (QfX (xg X) ov G1 (xa X)) (XfX (xg X) fa E1 ov G1) (fun q => gb (xg X) ≤ q) := px_runU (nA := 2) (owner := RX5) (x := ⟨RX7, "number", "(II)I"⟩) hc hT hG (o_X7 hM) (xk5 hM) (lw_app (lw_5 q1198 q1199 q1200 q818 q115) (lw_meth q819)) rfl (by decide +kernel) ⟨hh, by decide⟩ rfl rfl hst d
theorem cr_X7_90 {x0 : Nat} {x1 : Int32} {mc ms fa : Nat} {E1 : String} {ov : Option (Option Value)} (hc : OK X cc RX7 ht) (hM : OKX1 (xg X)) (hG : G.2 a = some (0, r)) (hT : MXa (xl X) (xg X) yX5_known cX5_known 4 (some .int) hy mc ms fa E1 G [.ref (a + 30), .ref x0, .int x1] ov G1) (hh : hy < ht) (hst : (st.map fun v => v.category).sum ≤ 8) (d : decode cc pc = .ok (.invokevirtual 90, 3)) : ∀ (H : Heap) (locs : List Loc) (ls : Array Slot), GW (xg X) G H → lv_has ls (xn X) L → k + mc ≤ (xR X).cells → n + ms ≤ (xR X).slots → vy_Run (xp X) (xl X) (xe X) (xR X) (xs X) (xm X) (xa X) (xb X) (xt X) (xc X) H locs k n mc ms (F0 (xm X) pc ls (.int x1 :: .ref x0 :: .ref (a + 30) :: st)) st (QfX (xg X) ov G1 (xa X)) (XfX (xg X) fa E1 ov G1) (fun q => gb (xg X) ≤ q) := px_runU (nA := 2) (owner := RX5) (x := ⟨RX7, "known", "([JI)I"⟩) hc hT hG (o_X7 hM) (xk5 hM) (lw_app (lw_5 q1214 q1215 q1216 q798 q115) (lw_meth q799)) rfl (by decide +kernel) ⟨hh, by decide⟩ rfl rfl hst d
theorem ca_X6_23  (hc : OK X cc RX6 ht) (hM : OKX1 (xg X)) (hG : G.2 a = some (0, r)) (hT : MT (xl X) (xg X) yX5_begin cX5_begin 1 none hy G [.ref (a + 29)] none G1) (hh : hy < ht) (hst : (st.map fun v => v.category).sum ≤ 8) (d : decode cc pc = .ok (.invokevirtual 23, 3)) (h : V X k n G1 L st (pc + 3)) : V X k n G L (.ref (a + 29) :: st) pc := fun hk hn => pv_callU (nA := 0) (owner := RX5) (x := ⟨RX6, "begin", "()V"⟩) hc hT hG (o_X6 hM) (xk4 hM) (lw_app (lw_5 q656 q657 q659 q660 q115) (lw_meth q661)) rfl (by decide +kernel) ⟨hh, by decide⟩ rfl rfl hst d ⟨hk, hn⟩ h hk hn
theorem ca_X6_34 {x0 : Nat} {v : Int32} (hc : OK X cc RX6 ht) (hM : OKX1 (xg X)) (hG : G.2 a = some (0, r)) (hT : MT (xl X) (xg X) yX5_find cX5_find 3 (some .int) hy G [.ref (a + 29), .ref x0] (some (.int v)) G1) (hh : hy < ht) (hst : (st.map fun v => v.category).sum ≤ 8) (d : decode cc pc = .ok (.invokevirtual 34, 3)) (h : V X k n G1 L (.int v :: st) (pc + 3)) : V X k n G L (.ref x0 :: .ref (a + 29) :: st) pc := fun hk hn => pv_callU (nA := 1) (owner := RX5) (x := ⟨RX6, "find", "([Ljava/lang/String;)I"⟩) hc hT hG (o_X6 hM) (xk4 hM) (lw_app (lw_5 q688 q689 q691 q692 q115) (lw_meth q693)) rfl (by decide +kernel) ⟨hh, by decide⟩ rfl rfl hst d ⟨hk, hn⟩ h hk hn
theorem cr_X6_38 {x0 : Int32} {x1 : Int32} {mc ms fa : Nat} {E1 : String} {ov : Option (Option Value)} (hc : OK X cc RX6 ht) (hM : OKX1 (xg X)) (hG : G.2 a = some (0, r)) (hT : MXa (xl X) (xg X) yX5_must cX5_must 3 none hy mc ms fa E1 G [.ref (a + 29), .int x0, .int x1] ov G1) (hh : hy < ht) (hst : (st.map fun v => v.category).sum ≤ 8) (d : decode cc pc = .ok (.invokevirtual 38, 3)) : ∀ (H : Heap) (locs : List Loc) (ls : Array Slot), GW (xg X) G H → lv_has ls (xn X) L → k + mc ≤ (xR X).cells → n + ms ≤ (xR X).slots → vy_Run (xp X) (xl X) (xe X) (xR X) (xs X) (xm X) (xa X) (xb X) (xt X) (xc X) H locs k n mc ms (F0 (xm X) pc ls (.int x1 :: .int x0 :: .ref (a + 29) :: st)) st (QfX (xg X) ov G1 (xa X)) (XfX (xg X) fa E1 ov G1) (fun q => gb (xg X) ≤ q) := px_runU (nA := 2) (owner := RX5) (x := ⟨RX6, "must", "(ZI)V"⟩) hc hT hG (o_X6 hM) (xk4 hM) (lw_app (lw_5 q749 q750 q752 q753 q115) (lw_meth q754)) rfl (by decide +kernel) ⟨hh, by decide⟩ rfl rfl hst d
theorem ca_X6_46 {x0 : Int32} {v : Int32} (hc : OK X cc RX6 ht) (hM : OKX1 (xg X)) (hG : G.2 a = some (0, r)) (hT : MT (xl X) (xg X) yX6_isRoom cX6_isRoom 2 (some .boolean) hy G [.ref (a + 29), .int x0] (some (.int v)) G1) (hh : hy < ht) (hst : (st.map fun v => v.category).sum ≤ 8) (d : decode cc pc = .ok (.invokevirtual 46, 3)) (h : V X k n G1 L (.int v :: st) (pc + 3)) : V X k n G L (.int x0 :: .ref (a + 29) :: st) pc := fun hk hn => pv_callV (nA := 1) hc hT hG (o_X6 hM) (xk4 hM) (lw_V q765 q767 qs3 q116 q768) (by decide +kernel) ⟨hh, by decide⟩ rfl rfl hst d ⟨hk, hn⟩ h hk hn
theorem ca_X6_50  (hc : OK X cc RX6 ht) (hM : OKX1 (xg X)) (hG : G.2 a = some (0, r)) (hT : MT (xl X) (xg X) yX5_next cX5_next 2 none hy G [.ref (a + 29)] none G1) (hh : hy < ht) (hst : (st.map fun v => v.category).sum ≤ 8) (d : decode cc pc = .ok (.invokevirtual 50, 3)) (h : V X k n G1 L st (pc + 3)) : V X k n G L (.ref (a + 29) :: st) pc := fun hk hn => pv_callU (nA := 0) (owner := RX5) (x := ⟨RX6, "next", "()V"⟩) hc hT hG (o_X6 hM) (xk4 hM) (lw_app (lw_5 q769 q770 q772 q663 q115) (lw_meth q668)) rfl (by decide +kernel) ⟨hh, by decide⟩ rfl rfl hst d ⟨hk, hn⟩ h hk hn
theorem cr_X6_53 {x0 : Int32} {mc ms fa : Nat} {E1 : String} {ov : Option (Option Value)} (hc : OK X cc RX6 ht) (hM : OKX1 (xg X)) (hG : G.2 a = some (0, r)) (hT : MXa (xl X) (xg X) yX6_line cX6_line 4 none hy mc ms fa E1 G [.ref (a + 29), .int x0] ov G1) (hh : hy < ht) (hst : (st.map fun v => v.category).sum ≤ 8) (d : decode cc pc = .ok (.invokevirtual 53, 3)) : ∀ (H : Heap) (locs : List Loc) (ls : Array Slot), GW (xg X) G H → lv_has ls (xn X) L → k + mc ≤ (xR X).cells → n + ms ≤ (xR X).slots → vy_Run (xp X) (xl X) (xe X) (xR X) (xs X) (xm X) (xa X) (xb X) (xt X) (xc X) H locs k n mc ms (F0 (xm X) pc ls (.int x0 :: .ref (a + 29) :: st)) st (QfX (xg X) ov G1 (xa X)) (XfX (xg X) fa E1 ov G1) (fun q => gb (xg X) ≤ q) := px_runV (nA := 1) hc hT hG (o_X6 hM) (xk4 hM) (lw_V q773 q775 qs4 q116 q776) (by decide +kernel) ⟨hh, by decide⟩ rfl rfl hst d
theorem cr_X6_57 {x0 : Int32} {mc ms fa : Nat} {E1 : String} {ov : Option (Option Value)} (hc : OK X cc RX6 ht) (hM : OKX1 (xg X)) (hG : G.2 a = some (0, r)) (hT : MXa (xl X) (xg X) yX5_sign cX5_sign 2 none hy mc ms fa E1 G [.ref (a + 29), .int x0] ov G1) (hh : hy < ht) (hst : (st.map fun v => v.category).sum ≤ 8) (d : decode cc pc = .ok (.invokevirtual 57, 3)) : ∀ (H : Heap) (locs : List Loc) (ls : Array Slot), GW (xg X) G H → lv_has ls (xn X) L → k + mc ≤ (xR X).cells → n + ms ≤ (xR X).slots → vy_Run (xp X) (xl X) (xe X) (xR X) (xs X) (xm X) (xa X) (xb X) (xt X) (xc X) H locs k n mc ms (F0 (xm X) pc ls (.int x0 :: .ref (a + 29) :: st)) st (QfX (xg X) ov G1 (xa X)) (XfX (xg X) fa E1 ov G1) (fun q => gb (xg X) ≤ q) := px_runU (nA := 1) (owner := RX5) (x := ⟨RX6, "sign", "(I)V"⟩) hc hT hG (o_X6 hM) (xk4 hM) (lw_app (lw_5 q825 q826 q828 q829 q115) (lw_meth q830)) rfl (by decide +kernel) ⟨hh, by decide⟩ rfl rfl hst d
theorem ca_X6_74  {v : Int32} (hc : OK X cc RX6 ht) (hM : OKX1 (xg X)) (hG : G.2 a = some (0, r)) (hT : MT (xl X) (xg X) yX5_isName cX5_isName 1 (some .boolean) hy G [.ref (a + 29)] (some (.int v)) G1) (hh : hy < ht) (hst : (st.map fun v => v.category).sum ≤ 8) (d : decode cc pc = .ok (.invokevirtual 74, 3)) (h : V X k n G1 L (.int v :: st) (pc + 3)) : V X k n G L (.ref (a + 29) :: st) pc := fun hk hn => pv_callU (nA := 0) (owner := RX5) (x := ⟨RX6, "isName", "()Z"⟩) hc hT hG (o_X6 hM) (xk4 hM) (lw_app (lw_5 q781 q782 q784 q785 q115) (lw_meth q786)) rfl (by decide +kernel) ⟨hh, by decide⟩ rfl rfl hst d ⟨hk, hn⟩ h hk hn
theorem ca_X6_82 {x0 : Nat} {x1 : Int32} {v : Int32} (hc : OK X cc RX6 ht) (hM : OKX1 (xg X)) (hG : G.2 a = some (0, r)) (hT : MT (xl X) (xg X) yX5_of cX5_of 4 (some .int) hy G [.ref (a + 29), .ref x0, .int x1] (some (.int v)) G1) (hh : hy < ht) (hst : (st.map fun v => v.category).sum ≤ 8) (d : decode cc pc = .ok (.invokevirtual 82, 3)) (h : V X k n G1 L (.int v :: st) (pc + 3)) : V X k n G L (.int x1 :: .ref x0 :: .ref (a + 29) :: st) pc := fun hk hn => pv_callU (nA := 2) (owner := RX5) (x := ⟨RX6, "of", "([JI)I"⟩) hc hT hG (o_X6 hM) (xk4 hM) (lw_app (lw_5 q788 q789 q791 q792 q115) (lw_meth q793)) rfl (by decide +kernel) ⟨hh, by decide⟩ rfl rfl hst d ⟨hk, hn⟩ h hk hn
theorem cr_X6_99  {mc ms fa : Nat} {E1 : String} {ov : Option (Option Value)} (hc : OK X cc RX6 ht) (hM : OKX1 (xg X)) (hG : G.2 a = some (0, r)) (hT : MXa (xl X) (xg X) yX6_fresh cX6_fresh 3 (some .long) hy mc ms fa E1 G [.ref (a + 29)] ov G1) (hh : hy < ht) (hst : (st.map fun v => v.category).sum ≤ 8) (d : decode cc pc = .ok (.invokevirtual 99, 3)) : ∀ (H : Heap) (locs : List Loc) (ls : Array Slot), GW (xg X) G H → lv_has ls (xn X) L → k + mc ≤ (xR X).cells → n + ms ≤ (xR X).slots → vy_Run (xp X) (xl X) (xe X) (xR X) (xs X) (xm X) (xa X) (xb X) (xt X) (xc X) H locs k n mc ms (F0 (xm X) pc ls (.ref (a + 29) :: st)) st (QfX (xg X) ov G1 (xa X)) (XfX (xg X) fa E1 ov G1) (fun q => gb (xg X) ≤ q) := px_runV (nA := 0) hc hT hG (o_X6 hM) (xk4 hM) (lw_V q777 q779 qs5 q116 q780) (by decide +kernel) ⟨hh, by decide⟩ rfl rfl hst d
theorem cr_X6_103 {x0 : Nat} {x1 : Int32} {mc ms fa : Nat} {E1 : String} {ov : Option (Option Value)} (hc : OK X cc RX6 ht) (hM : OKX1 (xg X)) (hG : G.2 a = some (0, r)) (hT : MXa (xl X) (xg X) yX5_known cX5_known 4 (some .int) hy mc ms fa E1 G [.ref (a + 29), .ref x0, .int x1] ov G1) (hh : hy < ht) (hst : (st.map fun v => v.category).sum ≤ 8) (d : decode cc pc = .ok (.invokevirtual 103, 3)) : ∀ (H : Heap) (locs : List Loc) (ls : Array Slot), GW (xg X) G H → lv_has ls (xn X) L → k + mc ≤ (xR X).cells → n + ms ≤ (xR X).slots → vy_Run (xp X) (xl X) (xe X) (xR X) (xs X) (xm X) (xa X) (xb X) (xt X) (xc X) H locs k n mc ms (F0 (xm X) pc ls (.int x1 :: .ref x0 :: .ref (a + 29) :: st)) st (QfX (xg X) ov G1 (xa X)) (XfX (xg X) fa E1 ov G1) (fun q => gb (xg X) ≤ q) := px_runU (nA := 2) (owner := RX5) (x := ⟨RX6, "known", "([JI)I"⟩) hc hT hG (o_X6 hM) (xk4 hM) (lw_app (lw_5 q794 q795 q797 q798 q115) (lw_meth q799)) rfl (by decide +kernel) ⟨hh, by decide⟩ rfl rfl hst d
theorem cr_X6_106 {x0 : Nat} {x1 : Int32} {mc ms fa : Nat} {E1 : String} {ov : Option (Option Value)} (hc : OK X cc RX6 ht) (hM : OKX1 (xg X)) (hG : G.2 a = some (0, r)) (hT : MXa (xl X) (xg X) yX5_look cX5_look 4 (some .int) hy mc ms fa E1 G [.ref (a + 29), .ref x0, .int x1] ov G1) (hh : hy < ht) (hst : (st.map fun v => v.category).sum ≤ 8) (d : decode cc pc = .ok (.invokevirtual 106, 3)) : ∀ (H : Heap) (locs : List Loc) (ls : Array Slot), GW (xg X) G H → lv_has ls (xn X) L → k + mc ≤ (xR X).cells → n + ms ≤ (xR X).slots → vy_Run (xp X) (xl X) (xe X) (xR X) (xs X) (xm X) (xa X) (xb X) (xt X) (xc X) H locs k n mc ms (F0 (xm X) pc ls (.int x1 :: .ref x0 :: .ref (a + 29) :: st)) st (QfX (xg X) ov G1 (xa X)) (XfX (xg X) fa E1 ov G1) (fun q => gb (xg X) ≤ q) := px_runU (nA := 2) (owner := RX5) (x := ⟨RX6, "look", "([JI)I"⟩) hc hT hG (o_X6 hM) (xk4 hM) (lw_app (lw_5 q810 q811 q813 q801 q115) (lw_meth q806)) rfl (by decide +kernel) ⟨hh, by decide⟩ rfl rfl hst d
theorem cr_X6_119 {x0 : Int32} {x1 : Int32} {mc ms fa : Nat} {E1 : String} {ov : Option (Option Value)} (hc : OK X cc RX6 ht) (hM : OKX1 (xg X)) (hG : G.2 a = some (0, r)) (hT : MXa (xl X) (xg X) yX5_number cX5_number 4 (some .int) hy mc ms fa E1 G [.ref (a + 29), .int x0, .int x1] ov G1) (hh : hy < ht) (hst : (st.map fun v => v.category).sum ≤ 8) (d : decode cc pc = .ok (.invokevirtual 119, 3)) : ∀ (H : Heap) (locs : List Loc) (ls : Array Slot), GW (xg X) G H → lv_has ls (xn X) L → k + mc ≤ (xR X).cells → n + ms ≤ (xR X).slots → vy_Run (xp X) (xl X) (xe X) (xR X) (xs X) (xm X) (xa X) (xb X) (xt X) (xc X) H locs k n mc ms (F0 (xm X) pc ls (.int x1 :: .int x0 :: .ref (a + 29) :: st)) st (QfX (xg X) ov G1 (xa X)) (XfX (xg X) fa E1 ov G1) (fun q => gb (xg X) ≤ q) := px_runU (nA := 2) (owner := RX5) (x := ⟨RX6, "number", "(II)I"⟩) hc hT hG (o_X6 hM) (xk4 hM) (lw_app (lw_5 q814 q815 q817 q818 q115) (lw_meth q819)) rfl (by decide +kernel) ⟨hh, by decide⟩ rfl rfl hst d
theorem ca_X6_125 {x0 : Nat} {v : Int32} (hc : OK X cc RX6 ht) (hM : OKX1 (xg X)) (hG : G.2 a = some (0, r)) (hT : MT (xl X) (xg X) yX5_is cX5_is 3 (some .boolean) hy G [.ref (a + 29), .ref x0] (some (.int v)) G1) (hh : hy < ht) (hst : (st.map fun v => v.category).sum ≤ 8) (d : decode cc pc = .ok (.invokevirtual 125, 3)) (h : V X k n G1 L (.int v :: st) (pc + 3)) : V X k n G L (.ref x0 :: .ref (a + 29) :: st) pc := fun hk hn => pv_callU (nA := 1) (owner := RX5) (x := ⟨RX6, "is", "(Ljava/lang/String;)Z"⟩) hc hT hG (o_X6 hM) (xk4 hM) (lw_app (lw_5 q821 q822 q824 q695 q115) (lw_meth q700)) rfl (by decide +kernel) ⟨hh, by decide⟩ rfl rfl hst d ⟨hk, hn⟩ h hk hn
theorem ca_X5_22  {j : Nat} (hj : j < 3) (hc : OK X cc RX5 ht) (hM : OKX1 (xg X)) (hG : G.2 a = some (0, r)) (hT : MT (xl X) (xg X) yX5_next cX5_next 2 none hy G [.ref (a + ro j)] none G1) (hh : hy < ht) (hst : (st.map fun v => v.category).sum ≤ 8) (d : decode cc pc = .ok (.invokevirtual 22, 3)) (h : V X k n G1 L st (pc + 3)) : V X k n G L (.ref (a + ro j) :: st) pc := by
  match j, hj with
  | 0, _ => exact fun hk hn => pv_callU (nA := 0) (owner := RX5) (x := ⟨RX5, "next", "()V"⟩) hc hT hG (o_X6 hM) (xk4 hM) (lw_app (lw_5 q662 q664 q666 q663 q115) (lw_meth q668)) rfl (by decide +kernel) ⟨hh, by decide⟩ rfl rfl hst d ⟨hk, hn⟩ h hk hn
  | 1, _ => exact fun hk hn => pv_callU (nA := 0) (owner := RX5) (x := ⟨RX5, "next", "()V"⟩) hc hT hG (o_X7 hM) (xk5 hM) (lw_app (lw_5 q662 q664 q665 q663 q115) (lw_meth q668)) rfl (by decide +kernel) ⟨hh, by decide⟩ rfl rfl hst d ⟨hk, hn⟩ h hk hn
  | 2, _ => exact fun hk hn => pv_callU (nA := 0) (owner := RX5) (x := ⟨RX5, "next", "()V"⟩) hc hT hG (o_X8 hM) (xk6 hM) (lw_app (lw_5 q662 q664 q667 q663 q115) (lw_meth q668)) rfl (by decide +kernel) ⟨hh, by decide⟩ rfl rfl hst d ⟨hk, hn⟩ h hk hn
theorem ca_X5_36  {v : Int32} {j : Nat} (hj : j < 3) (hc : OK X cc RX5 ht) (hM : OKX1 (xg X)) (hG : G.2 a = some (0, r)) (hT : MT (xl X) (xg X) yX5_peek cX5_peek 1 (some .int) hy G [.ref (a + ro j)] (some (.int v)) G1) (hh : hy < ht) (hst : (st.map fun v => v.category).sum ≤ 8) (d : decode cc pc = .ok (.invokevirtual 36, 3)) (h : V X k n G1 L (.int v :: st) (pc + 3)) : V X k n G L (.ref (a + ro j) :: st) pc := by
  match j, hj with
  | 0, _ => exact fun hk hn => pv_callU (nA := 0) (owner := RX5) (x := ⟨RX5, "peek", "()I"⟩) hc hT hG (o_X6 hM) (xk4 hM) (lw_app (lw_5 q669 q2197 qx0 q671 q115) (lw_meth q672)) rfl (by decide +kernel) ⟨hh, by decide⟩ rfl rfl hst d ⟨hk, hn⟩ h hk hn
  | 1, _ => exact fun hk hn => pv_callU (nA := 0) (owner := RX5) (x := ⟨RX5, "peek", "()I"⟩) hc hT hG (o_X7 hM) (xk5 hM) (lw_app (lw_5 q669 q2197 qx4 q671 q115) (lw_meth q672)) rfl (by decide +kernel) ⟨hh, by decide⟩ rfl rfl hst d ⟨hk, hn⟩ h hk hn
  | 2, _ => exact fun hk hn => pv_callU (nA := 0) (owner := RX5) (x := ⟨RX5, "peek", "()I"⟩) hc hT hG (o_X8 hM) (xk6 hM) (lw_app (lw_5 q669 q2197 qx8 q671 q115) (lw_meth q672)) rfl (by decide +kernel) ⟨hh, by decide⟩ rfl rfl hst d ⟨hk, hn⟩ h hk hn
theorem ca_X5_46 {x0 : Int32} {v : Int32} {j : Nat} (hj : j < 3) (hc : OK X cc RX5 ht) (hM : OKX1 (xg X)) (hG : G.2 a = some (0, r)) (hT : MT (xl X) (xg X) yX5_isLetter cX5_isLetter 2 (some .boolean) hy G [.ref (a + ro j), .int x0] (some (.int v)) G1) (hh : hy < ht) (hst : (st.map fun v => v.category).sum ≤ 8) (d : decode cc pc = .ok (.invokevirtual 46, 3)) (h : V X k n G1 L (.int v :: st) (pc + 3)) : V X k n G L (.int x0 :: .ref (a + ro j) :: st) pc := by
  match j, hj with
  | 0, _ => exact fun hk hn => pv_callU (nA := 1) (owner := RX5) (x := ⟨RX5, "isLetter", "(I)Z"⟩) hc hT hG (o_X6 hM) (xk4 hM) (lw_app (lw_5 q673 q2198 qx1 q675 q115) (lw_meth q676)) rfl (by decide +kernel) ⟨hh, by decide⟩ rfl rfl hst d ⟨hk, hn⟩ h hk hn
  | 1, _ => exact fun hk hn => pv_callU (nA := 1) (owner := RX5) (x := ⟨RX5, "isLetter", "(I)Z"⟩) hc hT hG (o_X7 hM) (xk5 hM) (lw_app (lw_5 q673 q2198 qx5 q675 q115) (lw_meth q676)) rfl (by decide +kernel) ⟨hh, by decide⟩ rfl rfl hst d ⟨hk, hn⟩ h hk hn
  | 2, _ => exact fun hk hn => pv_callU (nA := 1) (owner := RX5) (x := ⟨RX5, "isLetter", "(I)Z"⟩) hc hT hG (o_X8 hM) (xk6 hM) (lw_app (lw_5 q673 q2198 qx9 q675 q115) (lw_meth q676)) rfl (by decide +kernel) ⟨hh, by decide⟩ rfl rfl hst d ⟨hk, hn⟩ h hk hn
theorem ca_X5_50 {x0 : Int32} {v : Int32} {j : Nat} (hj : j < 3) (hc : OK X cc RX5 ht) (hM : OKX1 (xg X)) (hG : G.2 a = some (0, r)) (hT : MT (xl X) (xg X) yX5_isDigit cX5_isDigit 2 (some .boolean) hy G [.ref (a + ro j), .int x0] (some (.int v)) G1) (hh : hy < ht) (hst : (st.map fun v => v.category).sum ≤ 8) (d : decode cc pc = .ok (.invokevirtual 50, 3)) (h : V X k n G1 L (.int v :: st) (pc + 3)) : V X k n G L (.int x0 :: .ref (a + ro j) :: st) pc := by
  match j, hj with
  | 0, _ => exact fun hk hn => pv_callU (nA := 1) (owner := RX5) (x := ⟨RX5, "isDigit", "(I)Z"⟩) hc hT hG (o_X6 hM) (xk4 hM) (lw_app (lw_5 q680 q2199 qx2 q682 q115) (lw_meth q683)) rfl (by decide +kernel) ⟨hh, by decide⟩ rfl rfl hst d ⟨hk, hn⟩ h hk hn
  | 1, _ => exact fun hk hn => pv_callU (nA := 1) (owner := RX5) (x := ⟨RX5, "isDigit", "(I)Z"⟩) hc hT hG (o_X7 hM) (xk5 hM) (lw_app (lw_5 q680 q2199 qx6 q682 q115) (lw_meth q683)) rfl (by decide +kernel) ⟨hh, by decide⟩ rfl rfl hst d ⟨hk, hn⟩ h hk hn
  | 2, _ => exact fun hk hn => pv_callU (nA := 1) (owner := RX5) (x := ⟨RX5, "isDigit", "(I)Z"⟩) hc hT hG (o_X8 hM) (xk6 hM) (lw_app (lw_5 q680 q2199 qx10 q682 q115) (lw_meth q683)) rfl (by decide +kernel) ⟨hh, by decide⟩ rfl rfl hst d ⟨hk, hn⟩ h hk hn
theorem ca_X5_53 {x0 : Int32} {j : Nat} (hj : j < 3) (hc : OK X cc RX5 ht) (hM : OKX1 (xg X)) (hG : G.2 a = some (0, r)) (hT : MT (xl X) (xg X) yX5_run cX5_run 3 none hy G [.ref (a + ro j), .int x0] none G1) (hh : hy < ht) (hst : (st.map fun v => v.category).sum ≤ 8) (d : decode cc pc = .ok (.invokevirtual 53, 3)) (h : V X k n G1 L st (pc + 3)) : V X k n G L (.int x0 :: .ref (a + ro j) :: st) pc := by
  match j, hj with
  | 0, _ => exact fun hk hn => pv_callU (nA := 1) (owner := RX5) (x := ⟨RX5, "run", "(Z)V"⟩) hc hT hG (o_X6 hM) (xk4 hM) (lw_app (lw_5 q684 q2200 qx3 q686 q115) (lw_meth q687)) rfl (by decide +kernel) ⟨hh, by decide⟩ rfl rfl hst d ⟨hk, hn⟩ h hk hn
  | 1, _ => exact fun hk hn => pv_callU (nA := 1) (owner := RX5) (x := ⟨RX5, "run", "(Z)V"⟩) hc hT hG (o_X7 hM) (xk5 hM) (lw_app (lw_5 q684 q2200 qx7 q686 q115) (lw_meth q687)) rfl (by decide +kernel) ⟨hh, by decide⟩ rfl rfl hst d ⟨hk, hn⟩ h hk hn
  | 2, _ => exact fun hk hn => pv_callU (nA := 1) (owner := RX5) (x := ⟨RX5, "run", "(Z)V"⟩) hc hT hG (o_X8 hM) (xk6 hM) (lw_app (lw_5 q684 q2200 qx11 q686 q115) (lw_meth q687)) rfl (by decide +kernel) ⟨hh, by decide⟩ rfl rfl hst d ⟨hk, hn⟩ h hk hn
theorem ca_X5_76 {x0 : Nat} {v : Int32} {j : Nat} (hj : j < 3) (hc : OK X cc RX5 ht) (hM : OKX1 (xg X)) (hG : G.2 a = some (0, r)) (hT : MT (xl X) (xg X) yX5_is cX5_is 3 (some .boolean) hy G [.ref (a + ro j), .ref x0] (some (.int v)) G1) (hh : hy < ht) (hst : (st.map fun v => v.category).sum ≤ 8) (d : decode cc pc = .ok (.invokevirtual 76, 3)) (h : V X k n G1 L (.int v :: st) (pc + 3)) : V X k n G L (.ref x0 :: .ref (a + ro j) :: st) pc := by
  match j, hj with
  | 0, _ => exact fun hk hn => pv_callU (nA := 1) (owner := RX5) (x := ⟨RX5, "is", "(Ljava/lang/String;)Z"⟩) hc hT hG (o_X6 hM) (xk4 hM) (lw_app (lw_5 q694 q696 q698 q695 q115) (lw_meth q700)) rfl (by decide +kernel) ⟨hh, by decide⟩ rfl rfl hst d ⟨hk, hn⟩ h hk hn
  | 1, _ => exact fun hk hn => pv_callU (nA := 1) (owner := RX5) (x := ⟨RX5, "is", "(Ljava/lang/String;)Z"⟩) hc hT hG (o_X7 hM) (xk5 hM) (lw_app (lw_5 q694 q696 q697 q695 q115) (lw_meth q700)) rfl (by decide +kernel) ⟨hh, by decide⟩ rfl rfl hst d ⟨hk, hn⟩ h hk hn
  | 2, _ => exact fun hk hn => pv_callU (nA := 1) (owner := RX5) (x := ⟨RX5, "is", "(Ljava/lang/String;)Z"⟩) hc hT hG (o_X8 hM) (xk6 hM) (lw_app (lw_5 q694 q696 q699 q695 q115) (lw_meth q700)) rfl (by decide +kernel) ⟨hh, by decide⟩ rfl rfl hst d ⟨hk, hn⟩ h hk hn
theorem ca_X5_84 {x0 : Nat} {v : Int32} {j : Nat} (hj : j < 3) (hc : OK X cc RX5 ht) (hM : OKX1 (xg X)) (hG : G.2 a = some (0, r)) (hT : MT (xl X) (xg X) yX5_find cX5_find 3 (some .int) hy G [.ref (a + ro j), .ref x0] (some (.int v)) G1) (hh : hy < ht) (hst : (st.map fun v => v.category).sum ≤ 8) (d : decode cc pc = .ok (.invokevirtual 84, 3)) (h : V X k n G1 L (.int v :: st) (pc + 3)) : V X k n G L (.ref x0 :: .ref (a + ro j) :: st) pc := by
  match j, hj with
  | 0, _ => exact fun hk hn => pv_callU (nA := 1) (owner := RX5) (x := ⟨RX5, "find", "([Ljava/lang/String;)I"⟩) hc hT hG (o_X6 hM) (xk4 hM) (lw_app (lw_5 q787 q2201 q2203 q692 q115) (lw_meth q693)) rfl (by decide +kernel) ⟨hh, by decide⟩ rfl rfl hst d ⟨hk, hn⟩ h hk hn
  | 1, _ => exact fun hk hn => pv_callU (nA := 1) (owner := RX5) (x := ⟨RX5, "find", "([Ljava/lang/String;)I"⟩) hc hT hG (o_X7 hM) (xk5 hM) (lw_app (lw_5 q787 q2201 q2202 q692 q115) (lw_meth q693)) rfl (by decide +kernel) ⟨hh, by decide⟩ rfl rfl hst d ⟨hk, hn⟩ h hk hn
  | 2, _ => exact fun hk hn => pv_callU (nA := 1) (owner := RX5) (x := ⟨RX5, "find", "([Ljava/lang/String;)I"⟩) hc hT hG (o_X8 hM) (xk6 hM) (lw_app (lw_5 q787 q2201 q2204 q692 q115) (lw_meth q693)) rfl (by decide +kernel) ⟨hh, by decide⟩ rfl rfl hst d ⟨hk, hn⟩ h hk hn
theorem ca_X5_103 {x0 : Int32} {v : Nat} {j : Nat} (hj : j < 3) (hc : OK X cc RX5 ht) (hM : OKX1 (xg X)) (hG : G.2 a = some (0, r)) (hT : MT (xl X) (xg X) yX5_wrong cX5_wrong 2 (some (.object "ParlourLeaves$Fault")) hy G [.ref (a + ro j), .int x0] (some (.ref v)) G1) (hh : hy < ht) (hst : (st.map fun v => v.category).sum ≤ 8) (d : decode cc pc = .ok (.invokevirtual 103, 3)) (h : V X k n G1 L (.ref v :: st) (pc + 3)) : V X k n G L (.int x0 :: .ref (a + ro j) :: st) pc := by
  match j, hj with
  | 0, _ => exact fun hk hn => pv_callU (nA := 1) (owner := RX5) (x := ⟨RX5, "wrong", "(I)LParlourLeaves$Fault;"⟩) hc hT hG (o_X6 hM) (xk4 hM) (lw_app (lw_5 q755 q757 q759 q756 q115) (lw_meth q761)) rfl (by decide +kernel) ⟨hh, by decide⟩ rfl rfl hst d ⟨hk, hn⟩ h hk hn
  | 1, _ => exact fun hk hn => pv_callU (nA := 1) (owner := RX5) (x := ⟨RX5, "wrong", "(I)LParlourLeaves$Fault;"⟩) hc hT hG (o_X7 hM) (xk5 hM) (lw_app (lw_5 q755 q757 q758 q756 q115) (lw_meth q761)) rfl (by decide +kernel) ⟨hh, by decide⟩ rfl rfl hst d ⟨hk, hn⟩ h hk hn
  | 2, _ => exact fun hk hn => pv_callU (nA := 1) (owner := RX5) (x := ⟨RX5, "wrong", "(I)LParlourLeaves$Fault;"⟩) hc hT hG (o_X8 hM) (xk6 hM) (lw_app (lw_5 q755 q757 q760 q756 q115) (lw_meth q761)) rfl (by decide +kernel) ⟨hh, by decide⟩ rfl rfl hst d ⟨hk, hn⟩ h hk hn
theorem ca_X5_107 {x0 : Int32} {v : Int32} {j : Nat} (hj : j < 3) (hc : OK X cc RX5 ht) (hM : OKX1 (xg X)) (hG : G.2 a = some (0, r)) (hT : MT (xl X) (xg X) yX5_is_2 cX5_is_2 2 (some .boolean) hy G [.ref (a + ro j), .int x0] (some (.int v)) G1) (hh : hy < ht) (hst : (st.map fun v => v.category).sum ≤ 8) (d : decode cc pc = .ok (.invokevirtual 107, 3)) (h : V X k n G1 L (.int v :: st) (pc + 3)) : V X k n G L (.int x0 :: .ref (a + ro j) :: st) pc := by
  match j, hj with
  | 0, _ => exact fun hk hn => pv_callU (nA := 1) (owner := RX5) (x := ⟨RX5, "is", "(I)Z"⟩) hc hT hG (o_X6 hM) (xk4 hM) (lw_app (lw_5 q831 q833 q835 q832 q115) (lw_meth q837)) rfl (by decide +kernel) ⟨hh, by decide⟩ rfl rfl hst d ⟨hk, hn⟩ h hk hn
  | 1, _ => exact fun hk hn => pv_callU (nA := 1) (owner := RX5) (x := ⟨RX5, "is", "(I)Z"⟩) hc hT hG (o_X7 hM) (xk5 hM) (lw_app (lw_5 q831 q833 q834 q832 q115) (lw_meth q837)) rfl (by decide +kernel) ⟨hh, by decide⟩ rfl rfl hst d ⟨hk, hn⟩ h hk hn
  | 2, _ => exact fun hk hn => pv_callU (nA := 1) (owner := RX5) (x := ⟨RX5, "is", "(I)Z"⟩) hc hT hG (o_X8 hM) (xk6 hM) (lw_app (lw_5 q831 q833 q836 q832 q115) (lw_meth q837)) rfl (by decide +kernel) ⟨hh, by decide⟩ rfl rfl hst d ⟨hk, hn⟩ h hk hn
theorem cr_X5_109 {x0 : Int32} {x1 : Int32} {mc ms fa : Nat} {E1 : String} {ov : Option (Option Value)} {j : Nat} (hj : j < 3) (hc : OK X cc RX5 ht) (hM : OKX1 (xg X)) (hG : G.2 a = some (0, r)) (hT : MXa (xl X) (xg X) yX5_must cX5_must 3 none hy mc ms fa E1 G [.ref (a + ro j), .int x0, .int x1] ov G1) (hh : hy < ht) (hst : (st.map fun v => v.category).sum ≤ 8) (d : decode cc pc = .ok (.invokevirtual 109, 3)) : ∀ (H : Heap) (locs : List Loc) (ls : Array Slot), GW (xg X) G H → lv_has ls (xn X) L → k + mc ≤ (xR X).cells → n + ms ≤ (xR X).slots → vy_Run (xp X) (xl X) (xe X) (xR X) (xs X) (xm X) (xa X) (xb X) (xt X) (xc X) H locs k n mc ms (F0 (xm X) pc ls (.int x1 :: .int x0 :: .ref (a + ro j) :: st)) st (QfX (xg X) ov G1 (xa X)) (XfX (xg X) fa E1 ov G1) (fun q => gb (xg X) ≤ q) := by
  match j, hj with
  | 0, _ => exact px_runU (nA := 2) (owner := RX5) (x := ⟨RX5, "must", "(ZI)V"⟩) hc hT hG (o_X6 hM) (xk4 hM) (lw_app (lw_5 q808 q2209 q2211 q753 q115) (lw_meth q754)) rfl (by decide +kernel) ⟨hh, by decide⟩ rfl rfl hst d
  | 1, _ => exact px_runU (nA := 2) (owner := RX5) (x := ⟨RX5, "must", "(ZI)V"⟩) hc hT hG (o_X7 hM) (xk5 hM) (lw_app (lw_5 q808 q2209 q2210 q753 q115) (lw_meth q754)) rfl (by decide +kernel) ⟨hh, by decide⟩ rfl rfl hst d
  | 2, _ => exact px_runU (nA := 2) (owner := RX5) (x := ⟨RX5, "must", "(ZI)V"⟩) hc hT hG (o_X8 hM) (xk6 hM) (lw_app (lw_5 q808 q2209 q2212 q753 q115) (lw_meth q754)) rfl (by decide +kernel) ⟨hh, by decide⟩ rfl rfl hst d
theorem ca_X5_113  {v : Int32} {j : Nat} (hj : j < 3) (hc : OK X cc RX5 ht) (hM : OKX1 (xg X)) (hG : G.2 a = some (0, r)) (hT : MT (xl X) (xg X) yX5_isName cX5_isName 1 (some .boolean) hy G [.ref (a + ro j)] (some (.int v)) G1) (hh : hy < ht) (hst : (st.map fun v => v.category).sum ≤ 8) (d : decode cc pc = .ok (.invokevirtual 113, 3)) (h : V X k n G1 L (.int v :: st) (pc + 3)) : V X k n G L (.ref (a + ro j) :: st) pc := by
  match j, hj with
  | 0, _ => exact fun hk hn => pv_callU (nA := 0) (owner := RX5) (x := ⟨RX5, "isName", "()Z"⟩) hc hT hG (o_X6 hM) (xk4 hM) (lw_app (lw_5 q807 q2205 q2207 q785 q115) (lw_meth q786)) rfl (by decide +kernel) ⟨hh, by decide⟩ rfl rfl hst d ⟨hk, hn⟩ h hk hn
  | 1, _ => exact fun hk hn => pv_callU (nA := 0) (owner := RX5) (x := ⟨RX5, "isName", "()Z"⟩) hc hT hG (o_X7 hM) (xk5 hM) (lw_app (lw_5 q807 q2205 q2206 q785 q115) (lw_meth q786)) rfl (by decide +kernel) ⟨hh, by decide⟩ rfl rfl hst d ⟨hk, hn⟩ h hk hn
  | 2, _ => exact fun hk hn => pv_callU (nA := 0) (owner := RX5) (x := ⟨RX5, "isName", "()Z"⟩) hc hT hG (o_X8 hM) (xk6 hM) (lw_app (lw_5 q807 q2205 q2208 q785 q115) (lw_meth q786)) rfl (by decide +kernel) ⟨hh, by decide⟩ rfl rfl hst d ⟨hk, hn⟩ h hk hn
theorem ca_X5_117 {x0 : Nat} {x1 : Int32} {v : Int32} {j : Nat} (hj : j < 3) (hc : OK X cc RX5 ht) (hM : OKX1 (xg X)) (hG : G.2 a = some (0, r)) (hT : MT (xl X) (xg X) yX5_of cX5_of 4 (some .int) hy G [.ref (a + ro j), .ref x0, .int x1] (some (.int v)) G1) (hh : hy < ht) (hst : (st.map fun v => v.category).sum ≤ 8) (d : decode cc pc = .ok (.invokevirtual 117, 3)) (h : V X k n G1 L (.int v :: st) (pc + 3)) : V X k n G L (.int x1 :: .ref x0 :: .ref (a + ro j) :: st) pc := by
  match j, hj with
  | 0, _ => exact fun hk hn => pv_callU (nA := 2) (owner := RX5) (x := ⟨RX5, "of", "([JI)I"⟩) hc hT hG (o_X6 hM) (xk4 hM) (lw_app (lw_5 q809 q2213 q2215 q792 q115) (lw_meth q793)) rfl (by decide +kernel) ⟨hh, by decide⟩ rfl rfl hst d ⟨hk, hn⟩ h hk hn
  | 1, _ => exact fun hk hn => pv_callU (nA := 2) (owner := RX5) (x := ⟨RX5, "of", "([JI)I"⟩) hc hT hG (o_X7 hM) (xk5 hM) (lw_app (lw_5 q809 q2213 q2214 q792 q115) (lw_meth q793)) rfl (by decide +kernel) ⟨hh, by decide⟩ rfl rfl hst d ⟨hk, hn⟩ h hk hn
  | 2, _ => exact fun hk hn => pv_callU (nA := 2) (owner := RX5) (x := ⟨RX5, "of", "([JI)I"⟩) hc hT hG (o_X8 hM) (xk6 hM) (lw_app (lw_5 q809 q2213 q2216 q792 q115) (lw_meth q793)) rfl (by decide +kernel) ⟨hh, by decide⟩ rfl rfl hst d ⟨hk, hn⟩ h hk hn
theorem cr_X5_121 {x0 : Nat} {x1 : Int32} {mc ms fa : Nat} {E1 : String} {ov : Option (Option Value)} {j : Nat} (hj : j < 3) (hc : OK X cc RX5 ht) (hM : OKX1 (xg X)) (hG : G.2 a = some (0, r)) (hT : MXa (xl X) (xg X) yX5_look cX5_look 4 (some .int) hy mc ms fa E1 G [.ref (a + ro j), .ref x0, .int x1] ov G1) (hh : hy < ht) (hst : (st.map fun v => v.category).sum ≤ 8) (d : decode cc pc = .ok (.invokevirtual 121, 3)) : ∀ (H : Heap) (locs : List Loc) (ls : Array Slot), GW (xg X) G H → lv_has ls (xn X) L → k + mc ≤ (xR X).cells → n + ms ≤ (xR X).slots → vy_Run (xp X) (xl X) (xe X) (xR X) (xs X) (xm X) (xa X) (xb X) (xt X) (xc X) H locs k n mc ms (F0 (xm X) pc ls (.int x1 :: .ref x0 :: .ref (a + ro j) :: st)) st (QfX (xg X) ov G1 (xa X)) (XfX (xg X) fa E1 ov G1) (fun q => gb (xg X) ≤ q) := by
  match j, hj with
  | 0, _ => exact px_runU (nA := 2) (owner := RX5) (x := ⟨RX5, "look", "([JI)I"⟩) hc hT hG (o_X6 hM) (xk4 hM) (lw_app (lw_5 q800 q802 q804 q801 q115) (lw_meth q806)) rfl (by decide +kernel) ⟨hh, by decide⟩ rfl rfl hst d
  | 1, _ => exact px_runU (nA := 2) (owner := RX5) (x := ⟨RX5, "look", "([JI)I"⟩) hc hT hG (o_X7 hM) (xk5 hM) (lw_app (lw_5 q800 q802 q803 q801 q115) (lw_meth q806)) rfl (by decide +kernel) ⟨hh, by decide⟩ rfl rfl hst d
  | 2, _ => exact px_runU (nA := 2) (owner := RX5) (x := ⟨RX5, "look", "([JI)I"⟩) hc hT hG (o_X8 hM) (xk6 hM) (lw_app (lw_5 q800 q802 q805 q801 q115) (lw_meth q806)) rfl (by decide +kernel) ⟨hh, by decide⟩ rfl rfl hst d
theorem ca_X8_44  (hc : OK X cc RX8 ht) (hM : OKX1 (xg X)) (hG : G.2 a = some (0, r)) (hT : MT (xl X) (xg X) yX5_begin cX5_begin 1 none hy G [.ref (a + 69)] none G1) (hh : hy < ht) (hst : (st.map fun v => v.category).sum ≤ 8) (d : decode cc pc = .ok (.invokevirtual 44, 3)) (h : V X k n G1 L st (pc + 3)) : V X k n G L (.ref (a + 69) :: st) pc := fun hk hn => pv_callU (nA := 0) (owner := RX5) (x := ⟨RX8, "begin", "()V"⟩) hc hT hG (o_X8 hM) (xk6 hM) (lw_app (lw_5 q1311 q1312 q1313 q660 q115) (lw_meth q661)) rfl (by decide +kernel) ⟨hh, by decide⟩ rfl rfl hst d ⟨hk, hn⟩ h hk hn
theorem cr_X8_55 {x0 : Int32} {x1 : Int32} {mc ms fa : Nat} {E1 : String} {ov : Option (Option Value)} (hc : OK X cc RX8 ht) (hM : OKX1 (xg X)) (hG : G.2 a = some (0, r)) (hT : MXa (xl X) (xg X) yX5_must cX5_must 3 none hy mc ms fa E1 G [.ref (a + 69), .int x0, .int x1] ov G1) (hh : hy < ht) (hst : (st.map fun v => v.category).sum ≤ 8) (d : decode cc pc = .ok (.invokevirtual 55, 3)) : ∀ (H : Heap) (locs : List Loc) (ls : Array Slot), GW (xg X) G H → lv_has ls (xn X) L → k + mc ≤ (xR X).cells → n + ms ≤ (xR X).slots → vy_Run (xp X) (xl X) (xe X) (xR X) (xs X) (xm X) (xa X) (xb X) (xt X) (xc X) H locs k n mc ms (F0 (xm X) pc ls (.int x1 :: .int x0 :: .ref (a + 69) :: st)) st (QfX (xg X) ov G1 (xa X)) (XfX (xg X) fa E1 ov G1) (fun q => gb (xg X) ≤ q) := px_runU (nA := 2) (owner := RX5) (x := ⟨RX8, "must", "(ZI)V"⟩) hc hT hG (o_X8 hM) (xk6 hM) (lw_app (lw_5 q1337 q1338 q1339 q753 q115) (lw_meth q754)) rfl (by decide +kernel) ⟨hh, by decide⟩ rfl rfl hst d
theorem ca_X8_64 {x0 : Nat} {v : Int32} (hc : OK X cc RX8 ht) (hM : OKX1 (xg X)) (hG : G.2 a = some (0, r)) (hT : MT (xl X) (xg X) yX5_is cX5_is 3 (some .boolean) hy G [.ref (a + 69), .ref x0] (some (.int v)) G1) (hh : hy < ht) (hst : (st.map fun v => v.category).sum ≤ 8) (d : decode cc pc = .ok (.invokevirtual 64, 3)) (h : V X k n G1 L (.int v :: st) (pc + 3)) : V X k n G L (.ref x0 :: .ref (a + 69) :: st) pc := fun hk hn => pv_callU (nA := 1) (owner := RX5) (x := ⟨RX8, "is", "(Ljava/lang/String;)Z"⟩) hc hT hG (o_X8 hM) (xk6 hM) (lw_app (lw_5 q1327 q1328 q1329 q695 q115) (lw_meth q700)) rfl (by decide +kernel) ⟨hh, by decide⟩ rfl rfl hst d ⟨hk, hn⟩ h hk hn
theorem ca_X8_68  (hc : OK X cc RX8 ht) (hM : OKX1 (xg X)) (hG : G.2 a = some (0, r)) (hT : MT (xl X) (xg X) yX5_next cX5_next 2 none hy G [.ref (a + 69)] none G1) (hh : hy < ht) (hst : (st.map fun v => v.category).sum ≤ 8) (d : decode cc pc = .ok (.invokevirtual 68, 3)) (h : V X k n G1 L st (pc + 3)) : V X k n G L (.ref (a + 69) :: st) pc := fun hk hn => pv_callU (nA := 0) (owner := RX5) (x := ⟨RX8, "next", "()V"⟩) hc hT hG (o_X8 hM) (xk6 hM) (lw_app (lw_5 q1340 q1341 q1342 q663 q115) (lw_meth q668)) rfl (by decide +kernel) ⟨hh, by decide⟩ rfl rfl hst d ⟨hk, hn⟩ h hk hn
theorem ca_X8_86 {x0 : Int32} {v : Int32} (hc : OK X cc RX8 ht) (hM : OKX1 (xg X)) (hG : G.2 a = some (0, r)) (hT : MT (xl X) (xg X) yX5_is_2 cX5_is_2 2 (some .boolean) hy G [.ref (a + 69), .int x0] (some (.int v)) G1) (hh : hy < ht) (hst : (st.map fun v => v.category).sum ≤ 8) (d : decode cc pc = .ok (.invokevirtual 86, 3)) (h : V X k n G1 L (.int v :: st) (pc + 3)) : V X k n G L (.int x0 :: .ref (a + 69) :: st) pc := fun hk hn => pv_callU (nA := 1) (owner := RX5) (x := ⟨RX8, "is", "(I)Z"⟩) hc hT hG (o_X8 hM) (xk6 hM) (lw_app (lw_5 q1330 q1331 q1333 q832 q115) (lw_meth q837)) rfl (by decide +kernel) ⟨hh, by decide⟩ rfl rfl hst d ⟨hk, hn⟩ h hk hn
theorem ca_X8_89 {x0 : Nat} {v : Int32} (hc : OK X cc RX8 ht) (hM : OKX1 (xg X)) (hG : G.2 a = some (0, r)) (hT : MT (xl X) (xg X) yX5_find cX5_find 3 (some .int) hy G [.ref (a + 69), .ref x0] (some (.int v)) G1) (hh : hy < ht) (hst : (st.map fun v => v.category).sum ≤ 8) (d : decode cc pc = .ok (.invokevirtual 89, 3)) (h : V X k n G1 L (.int v :: st) (pc + 3)) : V X k n G L (.ref x0 :: .ref (a + 69) :: st) pc := fun hk hn => pv_callU (nA := 1) (owner := RX5) (x := ⟨RX8, "find", "([Ljava/lang/String;)I"⟩) hc hT hG (o_X8 hM) (xk6 hM) (lw_app (lw_5 q1334 q1335 q1336 q692 q115) (lw_meth q693)) rfl (by decide +kernel) ⟨hh, by decide⟩ rfl rfl hst d ⟨hk, hn⟩ h hk hn
theorem cr_X8_98 {x0 : Int32} {mc ms fa : Nat} {E1 : String} {ov : Option (Option Value)} (hc : OK X cc RX8 ht) (hM : OKX1 (xg X)) (hG : G.2 a = some (0, r)) (hT : MXa (xl X) (xg X) yX5_sign cX5_sign 2 none hy mc ms fa E1 G [.ref (a + 69), .int x0] ov G1) (hh : hy < ht) (hst : (st.map fun v => v.category).sum ≤ 8) (d : decode cc pc = .ok (.invokevirtual 98, 3)) : ∀ (H : Heap) (locs : List Loc) (ls : Array Slot), GW (xg X) G H → lv_has ls (xn X) L → k + mc ≤ (xR X).cells → n + ms ≤ (xR X).slots → vy_Run (xp X) (xl X) (xe X) (xR X) (xs X) (xm X) (xa X) (xb X) (xt X) (xc X) H locs k n mc ms (F0 (xm X) pc ls (.int x0 :: .ref (a + 69) :: st)) st (QfX (xg X) ov G1 (xa X)) (XfX (xg X) fa E1 ov G1) (fun q => gb (xg X) ≤ q) := px_runU (nA := 1) (owner := RX5) (x := ⟨RX8, "sign", "(I)V"⟩) hc hT hG (o_X8 hM) (xk6 hM) (lw_app (lw_5 q1353 q1354 q1355 q829 q115) (lw_meth q830)) rfl (by decide +kernel) ⟨hh, by decide⟩ rfl rfl hst d
theorem cr_X8_117 {x0 : Nat} {x1 : Int32} {mc ms fa : Nat} {E1 : String} {ov : Option (Option Value)} (hc : OK X cc RX8 ht) (hM : OKX1 (xg X)) (hG : G.2 a = some (0, r)) (hT : MXa (xl X) (xg X) yX5_known cX5_known 4 (some .int) hy mc ms fa E1 G [.ref (a + 69), .ref x0, .int x1] ov G1) (hh : hy < ht) (hst : (st.map fun v => v.category).sum ≤ 8) (d : decode cc pc = .ok (.invokevirtual 117, 3)) : ∀ (H : Heap) (locs : List Loc) (ls : Array Slot), GW (xg X) G H → lv_has ls (xn X) L → k + mc ≤ (xR X).cells → n + ms ≤ (xR X).slots → vy_Run (xp X) (xl X) (xe X) (xR X) (xs X) (xm X) (xa X) (xb X) (xt X) (xc X) H locs k n mc ms (F0 (xm X) pc ls (.int x1 :: .ref x0 :: .ref (a + 69) :: st)) st (QfX (xg X) ov G1 (xa X)) (XfX (xg X) fa E1 ov G1) (fun q => gb (xg X) ≤ q) := px_runU (nA := 2) (owner := RX5) (x := ⟨RX8, "known", "([JI)I"⟩) hc hT hG (o_X8 hM) (xk6 hM) (lw_app (lw_5 q1358 q1359 q1360 q798 q115) (lw_meth q799)) rfl (by decide +kernel) ⟨hh, by decide⟩ rfl rfl hst d
end BC4
def x5_peek (j : Nat) (s : Rec) : Option Int32 := (if (gI s 2) ≤ (gI s (rb j + 1)) then some (-1 : Int32) else IX (gI s (rb j + 1)) 940 (fun i1 => some ((gA s 0 i1) &&& (255 : Int32))))
set_option maxHeartbeats 4000000 in
theorem x5_peek_ok {l : Launch} {g : Gh} {G : Wd} (hX1 : OKX1 g) {j : Nat} (hj : j < 3) {a : Nat} {s : Rec} (hGt : G.2 a = some (0, s)) {r : Int32} (hf : x5_peek j s = some r) : MT l g yX5_peek cX5_peek 1 (some .int) 1 G [.ref (a + ro j)] (some (.int r)) G := by
  refine pv_start (by decide) (Nat.le_of_ble_eq_true rfl) ?_
  intro X hl hg hN hc hr _ _ _ hQ
  subst hl; subst hg
  have hn : ([a] : List Nat).Nodup := nd1 
  have hro := ((wz_c hGt wz_n) : ∀ u ∈ ([(a, 0, s)] : List (Nat × Nat × Rec)), G.2 u.1 = some u.2)
  refine pv_G (wz_id (us := [(a, 0, s)]) (wz_c hGt wz_n)) ?_
  have h := hf
  unfold x5_peek at h
  show V X 0 0 _ [(0, .ref (a + ro j))] [] 0
  refine pv_aload_n 0 hc dX5_peek_0 rfl rfl ?_
  refine gf_X5_19 hj hc hX1 (wz_at hn rfl 0 rfl) dX5_peek_1 ?_
  refine pv_aload_n 0 hc dX5_peek_4 rfl rfl ?_
  refine gf_X5_3 hj hc hX1 (wz_at hn rfl 0 rfl) dX5_peek_5 ?_
  refine gf_X5_25 hc hX1 (wz_at hn rfl 0 rfl) dX5_peek_8 ?_
  refine pv_icmp_ge (tgt := 33) hc dX5_peek_11 (by decide) h (fun h => ?_) (fun h => ?_)
  · refine pv_iconst (-1 : Int32) hc dX5_peek_33 rfl ?_
    exact pv_iret hc hr hQ (by cases h; rfl) (wz_id hro).symm dX5_peek_34
  · refine pv_aload_n 0 hc dX5_peek_14 rfl rfl ?_
    refine gf_X5_3 hj hc hX1 (wz_at hn rfl 0 rfl) dX5_peek_15 ?_
    refine gf_X5_28 hc hX1 (wz_at hn rfl 0 rfl) dX5_peek_18 ?_
    refine pv_aload_n 0 hc dX5_peek_21 rfl rfl ?_
    refine gf_X5_19 hj hc hX1 (wz_at hn rfl 0 rfl) dX5_peek_22 ?_
    obtain ⟨i1, hi1, h⟩ := IX_el h
    refine al_X1_tape hc hX1 (wz_at hn rfl 0 rfl) hi1 dX5_peek_25 ?_
    refine pv_sipush (255 : Int32) hc dX5_peek_26 rfl ?_
    refine pv_iand hc dX5_peek_29 ?_
    refine pv_goto (tgt := 34) hc dX5_peek_30 (by decide) ?_
    exact pv_iret hc hr hQ (by cases h; rfl) (wz_id hro).symm dX5_peek_34
def x5_isLetter (j : Nat) (s : Rec) (x1 : Int32) : Option Int32 := BD (x1_isIn x1 (97 : Int32) (122 : Int32)) (fun v2 => BZ v2 (some v2))
set_option maxHeartbeats 4000000 in
theorem x5_isLetter_ok {l : Launch} {g : Gh} {G : Wd} (hX1 : OKX1 g) {j : Nat} (hj : j < 3) {a : Nat} {s : Rec} (hGt : G.2 a = some (0, s)) {x1 : Int32} {r : Int32} (hf : x5_isLetter j s x1 = some r) : MT l g yX5_isLetter cX5_isLetter 2 (some .boolean) 2 G [.ref (a + ro j), .int x1] (some (.int r)) G := by
  refine pv_start (by decide) (Nat.le_of_ble_eq_true rfl) ?_
  intro X hl hg hN hc hr _ _ _ hQ
  subst hl; subst hg
  have hn : ([a] : List Nat).Nodup := nd1 
  have hro := ((wz_c hGt wz_n) : ∀ u ∈ ([(a, 0, s)] : List (Nat × Nat × Rec)), G.2 u.1 = some u.2)
  refine pv_G (wz_id (us := [(a, 0, s)]) (wz_c hGt wz_n)) ?_
  have h := hf
  unfold x5_isLetter at h
  show V X 0 0 _ [(0, .ref (a + ro j)), (1, .int x1)] [] 0
  refine pv_iload_n 1 hc dX5_isLetter_0 rfl rfl ?_
  refine pv_bipush (97 : Int32) hc dX5_isLetter_1 rfl ?_
  refine pv_bipush (122 : Int32) hc dX5_isLetter_3 rfl ?_
  obtain ⟨v2, hf1, h⟩ := BD_el h
  refine ca_X5_32 hc (x1_isIn_ok   hf1) (by decide) (Nat.le_of_ble_eq_true rfl) dX5_isLetter_5 ?_
  obtain ⟨hb3, h⟩ := BZ_el h
  exact pv_zret hc hr hQ hb3 (by cases h; rfl) (wz_id hro).symm dX5_isLetter_8
def x5_isDigit (j : Nat) (s : Rec) (x1 : Int32) : Option Int32 := BD (x1_isIn x1 (48 : Int32) (57 : Int32)) (fun v2 => BZ v2 (some v2))
set_option maxHeartbeats 4000000 in
theorem x5_isDigit_ok {l : Launch} {g : Gh} {G : Wd} (hX1 : OKX1 g) {j : Nat} (hj : j < 3) {a : Nat} {s : Rec} (hGt : G.2 a = some (0, s)) {x1 : Int32} {r : Int32} (hf : x5_isDigit j s x1 = some r) : MT l g yX5_isDigit cX5_isDigit 2 (some .boolean) 2 G [.ref (a + ro j), .int x1] (some (.int r)) G := by
  refine pv_start (by decide) (Nat.le_of_ble_eq_true rfl) ?_
  intro X hl hg hN hc hr _ _ _ hQ
  subst hl; subst hg
  have hn : ([a] : List Nat).Nodup := nd1 
  have hro := ((wz_c hGt wz_n) : ∀ u ∈ ([(a, 0, s)] : List (Nat × Nat × Rec)), G.2 u.1 = some u.2)
  refine pv_G (wz_id (us := [(a, 0, s)]) (wz_c hGt wz_n)) ?_
  have h := hf
  unfold x5_isDigit at h
  show V X 0 0 _ [(0, .ref (a + ro j)), (1, .int x1)] [] 0
  refine pv_iload_n 1 hc dX5_isDigit_0 rfl rfl ?_
  refine pv_bipush (48 : Int32) hc dX5_isDigit_1 rfl ?_
  refine pv_bipush (57 : Int32) hc dX5_isDigit_3 rfl ?_
  obtain ⟨v2, hf1, h⟩ := BD_el h
  refine ca_X5_32 hc (x1_isIn_ok   hf1) (by decide) (Nat.le_of_ble_eq_true rfl) dX5_isDigit_5 ?_
  obtain ⟨hb3, h⟩ := BZ_el h
  exact pv_zret hc hr hQ hb3 (by cases h; rfl) (wz_id hro).symm dX5_isDigit_8
def x5_run (j : Nat) (s : Rec) (x1 : Int32) : Option Rec := LT (sI s (rb j + 4) (0 : Int32)) (fun s1 => LT (sJ s1 (rb j + 6) (0 : Int64)) (fun s2 => LP2 (fun (rec5 : Int32 → Rec → Option Rec) (v3 : Int32) (s4 : Rec) => BD (x5_peek j s4) (fun v7 => BD (x5_isLetter j s4 v7) (fun v9 => JN1 (fun (u10 : Unit) => JN1 (fun (v12 : Int32) => JN1 (fun (s14 : Rec) => JN1 (fun (s16 : Rec) => LT (sI s16 (rb j + 1) ((gI s16 (rb j + 1)) + (1 : Int32))) (fun s18 => rec5 v12 s18)) (fun (j17 : Rec → Option Rec) => (if (3 : Int32) ≤ ((gI s14 (rb j + 1)) - (gI s14 (rb j + 2))) then j17 s14 else BD (x5_peek j s14) (fun v20 => LT (sI s14 (rb j + 4) ((((10 : Int32) * (gI s14 (rb j + 4))) + v20) - (48 : Int32))) (fun s21 => j17 s21))))) (fun (j15 : Rec → Option Rec) => (if (7 : Int32) ≤ ((gI s4 (rb j + 1)) - (gI s4 (rb j + 2))) then j15 s4 else BD (x5_peek j s4) (fun v23 => LT (sJ s4 (rb j + 6) (((gJ s4 (rb j + 6)) <<< (Int32.toInt64 (8 : Int32) &&& 63)) ||| (Int32.toInt64 v23))) (fun s24 => j15 s24))))) (fun (j13 : Int32 → Option Rec) => (if v3 = 0 then j13 (0 : Int32) else BD (x5_peek j s4) (fun v26 => BD (x5_isLetter j s4 v26) (fun v28 => (if v28 = x1 then j13 (1 : Int32) else j13 (0 : Int32))))))) (fun (j11 : Unit → Option Rec) => (if v9 = 0 then BD (x5_peek j s4) (fun v30 => BD (x5_isDigit j s4 v30) (fun v32 => (if v32 = 0 then LT (sI s4 (rb j + 5) ((gI s4 (rb j + 1)) - (gI s4 (rb j + 2)))) (fun s33 => (if v3 = 0 then LT (sI s33 (rb j + 3) (4 : Int32)) (fun s34 => some s34) else JN1 (fun (v35 : Int32) => (if (gI s33 (rb j + 5)) ≤ v35 then (if x1 = 0 then LT (sI s33 (rb j + 3) (2 : Int32)) (fun s37 => some s37) else LT (sI s33 (rb j + 3) (1 : Int32)) (fun s38 => some s38)) else LT (sI s33 (rb j + 3) (4 : Int32)) (fun s39 => some s39))) (fun (j36 : Int32 → Option Rec) => (if x1 = 0 then j36 (3 : Int32) else j36 (7 : Int32))))) else j11 ()))) else j11 ()))))) FU (1 : Int32) s2))
set_option maxHeartbeats 4000000 in
theorem x5_run_ok {l : Launch} {g : Gh} {G : Wd} (hX1 : OKX1 g) {j : Nat} (hj : j < 3) {a : Nat} {s : Rec} (hGt : G.2 a = some (0, s)) {x1 : Int32} {s' : Rec} (hf : x5_run j s x1 = some s') : MT l g yX5_run cX5_run 3 none 3 G [.ref (a + ro j), .int x1] none (wp G a 0 s') := by
  refine pv_start (by decide) (Nat.le_of_ble_eq_true rfl) ?_
  intro X hl hg hN hc hr _ _ _ hQ
  subst hl; subst hg
  have hn : ([a] : List Nat).Nodup := nd1 
  have hro := (wz_n : ∀ u ∈ ([] : List (Nat × Nat × Rec)), G.2 u.1 = some u.2)
  refine pv_G (wz_id (us := [(a, 0, s)]) (wz_c hGt wz_n)) ?_
  have h := hf
  unfold x5_run at h
  show V X 0 0 _ [(0, .ref (a + ro j)), (1, .int x1)] [] 0
  refine pv_iconst (1 : Int32) hc dX5_run_0 rfl ?_
  refine pv_istore_n (L' := [(2, .int (1 : Int32)), (0, .ref (a + ro j)), (1, .int x1)]) hc dX5_run_1 rfl hN (by decide) rfl ?_
  refine pv_aload_n 1 hc dX5_run_2 rfl rfl ?_
  refine pv_iconst (0 : Int32) hc dX5_run_3 rfl ?_
  obtain ⟨s1, hs1, h⟩ := LT_el h
  refine pf_X5_57 (G1 := (wz G [(a, 0, s1)])) hj hc hX1 (wz_at hn rfl 0 rfl) hs1 (wz_set hn rfl 0 rfl rfl) dX5_run_4 ?_
  refine pv_aload_n 1 hc dX5_run_7 rfl rfl ?_
  refine pv_lconst (0 : Int64) hc dX5_run_8 rfl ?_
  obtain ⟨s2, hs2, h⟩ := LT_el h
  refine pf_X5_60 (G1 := (wz G [(a, 0, s2)])) hj hc hX1 (wz_at hn rfl 0 rfl) hs2 (wz_set hn rfl 0 rfl rfl) dX5_run_9 ?_
  refine pv_sub [1, 2, 0] rfl ?_
  refine LP2_el (P := fun v3 s4 => V X 0 0 (wz G [(a, 0, s4)]) [(0, .ref (a + ro j)), (1, .int x1), (2, .int v3)] [] 12) ?_ FU _ _ h
  intro rec5 hrec5 v3 s4 h
  refine pv_aload_n 0 hc dX5_run_12 rfl rfl ?_
  refine pv_aload_n 0 hc dX5_run_13 rfl rfl ?_
  obtain ⟨v7, hf6, h⟩ := BD_el h
  refine ca_X5_36 hj hc hX1 (wz_at hn rfl 0 rfl) (x5_peek_ok hX1 hj (wz_at hn rfl 0 rfl) hf6) (by decide) (Nat.le_of_ble_eq_true rfl) dX5_run_14 ?_
  obtain ⟨v9, hf8, h⟩ := BD_el h
  refine ca_X5_46 hj hc hX1 (wz_at hn rfl 0 rfl) (x5_isLetter_ok hX1 hj (wz_at hn rfl 0 rfl) hf8) (by decide) (Nat.le_of_ble_eq_true rfl) dX5_run_17 ?_
  obtain ⟨j11, hj11, h⟩ := JN1_el (P := fun u10 => V X 0 0 (wz G [(a, 0, s4)]) [(0, .ref (a + ro j)), (1, .int x1), (2, .int v3)] [] 34) h (by
      intro u10 h
      refine pv_iload_n 2 hc dX5_run_34 rfl rfl ?_
      obtain ⟨j13, hj13, h⟩ := JN1_el (P := fun v12 => V X 0 0 (wz G [(a, 0, s4)]) [(0, .ref (a + ro j)), (1, .int x1)] [.int v12] 55) h (by
          intro v12 h
          refine pv_istore_n (L' := [(2, .int v12), (0, .ref (a + ro j)), (1, .int x1)]) hc dX5_run_55 rfl hN (by decide) rfl ?_
          refine pv_aload_n 1 hc dX5_run_56 rfl rfl ?_
          refine gf_X5_19 hj hc hX1 (wz_at hn rfl 0 rfl) dX5_run_57 ?_
          refine pv_aload_n 1 hc dX5_run_60 rfl rfl ?_
          refine gf_X5_40 hj hc hX1 (wz_at hn rfl 0 rfl) dX5_run_61 ?_
          refine pv_isub hc dX5_run_64 ?_
          refine pv_bipush (7 : Int32) hc dX5_run_65 rfl ?_
          obtain ⟨j15, hj15, h⟩ := JN1_el (P := fun s14 => V X 0 0 (wz G [(a, 0, s14)]) [(0, .ref (a + ro j)), (1, .int x1), (2, .int v12)] [] 87) h (by
              intro s14 h
              refine pv_aload_n 0 hc dX5_run_87 rfl rfl ?_
              refine gf_X5_19 hj hc hX1 (wz_at hn rfl 0 rfl) dX5_run_88 ?_
              refine pv_aload_n 0 hc dX5_run_91 rfl rfl ?_
              refine gf_X5_40 hj hc hX1 (wz_at hn rfl 0 rfl) dX5_run_92 ?_
              refine pv_isub hc dX5_run_95 ?_
              refine pv_iconst (3 : Int32) hc dX5_run_96 rfl ?_
              obtain ⟨j17, hj17, h⟩ := JN1_el (P := fun s16 => V X 0 0 (wz G [(a, 0, s16)]) [(0, .ref (a + ro j)), (1, .int x1), (2, .int v12)] [] 119) h (by
                  intro s16 h
                  refine pv_aload_n 0 hc dX5_run_119 rfl rfl ?_
                  refine pv_dup hc dX5_run_120 rfl ?_
                  refine gf_X5_19 hj hc hX1 (wz_at hn rfl 0 rfl) dX5_run_121 ?_
                  refine pv_iconst (1 : Int32) hc dX5_run_124 rfl ?_
                  refine pv_iadd hc dX5_run_125 ?_
                  obtain ⟨s18, hs18, h⟩ := LT_el h
                  refine pf_X5_19 (G1 := (wz G [(a, 0, s18)])) hj hc hX1 (wz_at hn rfl 0 rfl) hs18 (wz_set hn rfl 0 rfl rfl) dX5_run_126 ?_
                  refine pv_goto (tgt := 12) hc dX5_run_129 (by decide) ?_
                  exact hrec5 _ _ h)
              refine pv_icmp_ge (tgt := 119) hc dX5_run_97 (by decide) h (fun h => ?_) (fun h => ?_)
              · exact hj17 _ h
              · refine pv_aload_n 0 hc dX5_run_100 rfl rfl ?_
                refine pv_bipush (10 : Int32) hc dX5_run_101 rfl ?_
                refine pv_aload_n 0 hc dX5_run_103 rfl rfl ?_
                refine gf_X5_57 hj hc hX1 (wz_at hn rfl 0 rfl) dX5_run_104 ?_
                refine pv_imul hc dX5_run_107 ?_
                refine pv_aload_n 0 hc dX5_run_108 rfl rfl ?_
                obtain ⟨v20, hf19, h⟩ := BD_el h
                refine ca_X5_36 hj hc hX1 (wz_at hn rfl 0 rfl) (x5_peek_ok hX1 hj (wz_at hn rfl 0 rfl) hf19) (by decide) (Nat.le_of_ble_eq_true rfl) dX5_run_109 ?_
                refine pv_iadd hc dX5_run_112 ?_
                refine pv_bipush (48 : Int32) hc dX5_run_113 rfl ?_
                refine pv_isub hc dX5_run_115 ?_
                obtain ⟨s21, hs21, h⟩ := LT_el h
                refine pf_X5_57 (G1 := (wz G [(a, 0, s21)])) hj hc hX1 (wz_at hn rfl 0 rfl) hs21 (wz_set hn rfl 0 rfl rfl) dX5_run_116 ?_
                exact hj17 _ h)
          refine pv_icmp_ge (tgt := 87) hc dX5_run_67 (by decide) h (fun h => ?_) (fun h => ?_)
          · refine pv_sub [1, 2, 0] rfl ?_
            exact hj15 _ h
          · refine pv_aload_n 1 hc dX5_run_70 rfl rfl ?_
            refine pv_aload_n 1 hc dX5_run_71 rfl rfl ?_
            refine gf_X5_60 hj hc hX1 (wz_at hn rfl 0 rfl) dX5_run_72 ?_
            refine pv_bipush (8 : Int32) hc dX5_run_75 rfl ?_
            refine pv_lshl hc dX5_run_77 ?_
            refine pv_aload_n 1 hc dX5_run_78 rfl rfl ?_
            obtain ⟨v23, hf22, h⟩ := BD_el h
            refine ca_X5_36 hj hc hX1 (wz_at hn rfl 0 rfl) (x5_peek_ok hX1 hj (wz_at hn rfl 0 rfl) hf22) (by decide) (Nat.le_of_ble_eq_true rfl) dX5_run_79 ?_
            refine pv_i2l hc dX5_run_82 ?_
            refine pv_lor hc dX5_run_83 ?_
            obtain ⟨s24, hs24, h⟩ := LT_el h
            refine pf_X5_60 (G1 := (wz G [(a, 0, s24)])) hj hc hX1 (wz_at hn rfl 0 rfl) hs24 (wz_set hn rfl 0 rfl rfl) dX5_run_84 ?_
            refine pv_sub [1, 2, 0] rfl ?_
            exact hj15 _ h)
      refine pv_if_eq (tgt := 54) hc dX5_run_35 (by decide) h (fun h => ?_) (fun h => ?_)
      · refine pv_iconst (0 : Int32) hc dX5_run_54 rfl ?_
        refine pv_sub [0, 1] rfl ?_
        exact hj13 _ h
      · refine pv_aload_n 0 hc dX5_run_38 rfl rfl ?_
        refine pv_aload_n 0 hc dX5_run_39 rfl rfl ?_
        obtain ⟨v26, hf25, h⟩ := BD_el h
        refine ca_X5_36 hj hc hX1 (wz_at hn rfl 0 rfl) (x5_peek_ok hX1 hj (wz_at hn rfl 0 rfl) hf25) (by decide) (Nat.le_of_ble_eq_true rfl) dX5_run_40 ?_
        obtain ⟨v28, hf27, h⟩ := BD_el h
        refine ca_X5_46 hj hc hX1 (wz_at hn rfl 0 rfl) (x5_isLetter_ok hX1 hj (wz_at hn rfl 0 rfl) hf27) (by decide) (Nat.le_of_ble_eq_true rfl) dX5_run_43 ?_
        refine pv_iload_n 1 hc dX5_run_46 rfl rfl ?_
        refine pv_icmp_ne (tgt := 54) hc dX5_run_47 (by decide) h (fun h => ?_) (fun h => ?_)
        · refine pv_iconst (0 : Int32) hc dX5_run_54 rfl ?_
          refine pv_sub [0, 1] rfl ?_
          exact hj13 _ h
        · refine pv_iconst (1 : Int32) hc dX5_run_50 rfl ?_
          refine pv_goto (tgt := 55) hc dX5_run_51 (by decide) ?_
          refine pv_sub [0, 1] rfl ?_
          exact hj13 _ h)
  refine pv_if_ne (tgt := 34) hc dX5_run_20 (by decide) h (fun h => ?_) (fun h => ?_)
  · exact hj11 _ h
  · refine pv_aload_n 0 hc dX5_run_23 rfl rfl ?_
    refine pv_aload_n 0 hc dX5_run_24 rfl rfl ?_
    obtain ⟨v30, hf29, h⟩ := BD_el h
    refine ca_X5_36 hj hc hX1 (wz_at hn rfl 0 rfl) (x5_peek_ok hX1 hj (wz_at hn rfl 0 rfl) hf29) (by decide) (Nat.le_of_ble_eq_true rfl) dX5_run_25 ?_
    obtain ⟨v32, hf31, h⟩ := BD_el h
    refine ca_X5_50 hj hc hX1 (wz_at hn rfl 0 rfl) (x5_isDigit_ok hX1 hj (wz_at hn rfl 0 rfl) hf31) (by decide) (Nat.le_of_ble_eq_true rfl) dX5_run_28 ?_
    refine pv_if_eq (tgt := 132) hc dX5_run_31 (by decide) h (fun h => ?_) (fun h => ?_)
    · refine pv_aload_n 0 hc dX5_run_132 rfl rfl ?_
      refine pv_aload_n 0 hc dX5_run_133 rfl rfl ?_
      refine gf_X5_19 hj hc hX1 (wz_at hn rfl 0 rfl) dX5_run_134 ?_
      refine pv_aload_n 0 hc dX5_run_137 rfl rfl ?_
      refine gf_X5_40 hj hc hX1 (wz_at hn rfl 0 rfl) dX5_run_138 ?_
      refine pv_isub hc dX5_run_141 ?_
      obtain ⟨s33, hs33, h⟩ := LT_el h
      refine pf_X5_64 (G1 := (wz G [(a, 0, s33)])) hj hc hX1 (wz_at hn rfl 0 rfl) hs33 (wz_set hn rfl 0 rfl rfl) dX5_run_142 ?_
      refine pv_aload_n 0 hc dX5_run_145 rfl rfl ?_
      refine pv_iload_n 2 hc dX5_run_146 rfl rfl ?_
      refine pv_if_eq (tgt := 167) hc dX5_run_147 (by decide) h (fun h => ?_) (fun h => ?_)
      · refine pv_iconst (4 : Int32) hc dX5_run_167 rfl ?_
        refine pv_goto (tgt := 180) hc dX5_run_168 (by decide) ?_
        obtain ⟨s34, hs34, h⟩ := LT_el h
        refine pf_X5_43 (G1 := (wz G [(a, 0, s34)])) hj hc hX1 (wz_at hn rfl 0 rfl) hs34 (wz_set hn rfl 0 rfl rfl) dX5_run_180 ?_
        exact pv_vret hc hr hQ rfl (fin_z (ro := []) (vs := [(a, 0, s34)]) hro (by cases h; rfl)) dX5_run_183
      · refine pv_aload_n 0 hc dX5_run_150 rfl rfl ?_
        refine gf_X5_64 hj hc hX1 (wz_at hn rfl 0 rfl) dX5_run_151 ?_
        refine pv_iload_n 1 hc dX5_run_154 rfl rfl ?_
        obtain ⟨j36, hj36, h⟩ := JN1_el (P := fun v35 => V X 0 0 (wz G [(a, 0, s33)]) [(1, .int x1)] [.int v35, .int (gI s33 (rb j + 5)), .ref (a + ro j)] 164) h (by
            intro v35 h
            refine pv_icmp_le (tgt := 171) hc dX5_run_164 (by decide) h (fun h => ?_) (fun h => ?_)
            · refine pv_iload_n 0 hc dX5_run_171 rfl rfl ?_
              refine pv_if_eq (tgt := 179) hc dX5_run_172 (by decide) h (fun h => ?_) (fun h => ?_)
              · refine pv_iconst (2 : Int32) hc dX5_run_179 rfl ?_
                obtain ⟨s37, hs37, h⟩ := LT_el h
                refine pf_X5_43 (G1 := (wz G [(a, 0, s37)])) hj hc hX1 (wz_at hn rfl 0 rfl) hs37 (wz_set hn rfl 0 rfl rfl) dX5_run_180 ?_
                exact pv_vret hc hr hQ rfl (fin_z (ro := []) (vs := [(a, 0, s37)]) hro (by cases h; rfl)) dX5_run_183
              · refine pv_iconst (1 : Int32) hc dX5_run_175 rfl ?_
                refine pv_goto (tgt := 180) hc dX5_run_176 (by decide) ?_
                obtain ⟨s38, hs38, h⟩ := LT_el h
                refine pf_X5_43 (G1 := (wz G [(a, 0, s38)])) hj hc hX1 (wz_at hn rfl 0 rfl) hs38 (wz_set hn rfl 0 rfl rfl) dX5_run_180 ?_
                exact pv_vret hc hr hQ rfl (fin_z (ro := []) (vs := [(a, 0, s38)]) hro (by cases h; rfl)) dX5_run_183
            · refine pv_iconst (4 : Int32) hc dX5_run_167 rfl ?_
              refine pv_goto (tgt := 180) hc dX5_run_168 (by decide) ?_
              obtain ⟨s39, hs39, h⟩ := LT_el h
              refine pf_X5_43 (G1 := (wz G [(a, 0, s39)])) hj hc hX1 (wz_at hn rfl 0 rfl) hs39 (wz_set hn rfl 0 rfl rfl) dX5_run_180 ?_
              exact pv_vret hc hr hQ rfl (fin_z (ro := []) (vs := [(a, 0, s39)]) hro (by cases h; rfl)) dX5_run_183)
        refine pv_if_eq (tgt := 163) hc dX5_run_155 (by decide) h (fun h => ?_) (fun h => ?_)
        · refine pv_iconst (3 : Int32) hc dX5_run_163 rfl ?_
          refine pv_sub [1] rfl ?_
          exact hj36 _ h
        · refine pv_bipush (7 : Int32) hc dX5_run_158 rfl ?_
          refine pv_goto (tgt := 164) hc dX5_run_160 (by decide) ?_
          refine pv_sub [1] rfl ?_
          exact hj36 _ h
    · exact hj11 _ h
def x5_next (j : Nat) (s : Rec) : Option Rec := LP1 (fun (rec2 : Rec → Option Rec) (s1 : Rec) => BD (x5_peek j s1) (fun v4 => JN1 (fun (u5 : Unit) => LT (sI s1 (rb j + 1) ((gI s1 (rb j + 1)) + (1 : Int32))) (fun s7 => rec2 s7)) (fun (j6 : Unit → Option Rec) => (if v4 = (32 : Int32) then j6 () else BD (x5_peek j s1) (fun v9 => (if v9 = (10 : Int32) then j6 () else LT (sI s1 (rb j + 2) (gI s1 (rb j + 1))) (fun s10 => JN1 (fun (u11 : Unit) => BD (x5_peek j s10) (fun v14 => (if 0 ≤ v14 then BD (x5_isLetter j s10 v14) (fun v16 => JN1 (fun (u17 : Unit) => BD (x5_isLetter j s10 v14) (fun v20 => BD (x5_run j s10 v20) (fun s22 => some s22))) (fun (j18 : Unit → Option Rec) => (if v16 = 0 then BD (x5_isDigit j s10 v14) (fun v24 => (if v24 = 0 then JN1 (fun (v25 : Int32) => LT (sI s10 (rb j + 3) v25) (fun s27 => LT (sI s27 (rb j + 4) v14) (fun s28 => LT (sI s28 (rb j + 1) ((gI s28 (rb j + 1)) + (1 : Int32))) (fun s29 => some s29)))) (fun (j26 : Int32 → Option Rec) => (if v14 = (59 : Int32) then j26 (3 : Int32) else (if v14 = (40 : Int32) then j26 (3 : Int32) else (if v14 = (41 : Int32) then j26 (3 : Int32) else BD (x1_isIn v14 (60 : Int32) (62 : Int32)) (fun v31 => (if v31 = 0 then j26 (4 : Int32) else j26 (3 : Int32))))))) else j18 ())) else j18 ()))) else LT (sI s10 (rb j + 3) (0 : Int32)) (fun s32 => some s32)))) (fun (j12 : Unit → Option Rec) => (if (gI s10 2) ≤ (mo j) then j12 () else (if (gI s10 (rb j + 1)) < (mo j) then j12 () else LT (sI s10 (rb j + 2) (mo j)) (fun s33 => LT (sI s33 (rb j + 3) (4 : Int32)) (fun s34 => some s34)))))))))))) FU s
set_option maxHeartbeats 4000000 in
theorem x5_next_ok {l : Launch} {g : Gh} {G : Wd} (hX1 : OKX1 g) {j : Nat} (hj : j < 3) {a : Nat} {s : Rec} (hGt : G.2 a = some (0, s)) {s' : Rec} (hf : x5_next j s = some s') : MT l g yX5_next cX5_next 2 none 4 G [.ref (a + ro j)] none (wp G a 0 s') := by
  refine pv_start (by decide) (Nat.le_of_ble_eq_true rfl) ?_
  intro X hl hg hN hc hr _ _ _ hQ
  subst hl; subst hg
  have hn : ([a] : List Nat).Nodup := nd1 
  have hro := (wz_n : ∀ u ∈ ([] : List (Nat × Nat × Rec)), G.2 u.1 = some u.2)
  refine pv_G (wz_id (us := [(a, 0, s)]) (wz_c hGt wz_n)) ?_
  have h := hf
  unfold x5_next at h
  show V X 0 0 _ [(0, .ref (a + ro j))] [] 0
  refine LP1_el (P := fun s1 => V X 0 0 (wz G [(a, 0, s1)]) [(0, .ref (a + ro j))] [] 0) ?_ FU _ h
  intro rec2 hrec2 s1 h
  refine pv_aload_n 0 hc dX5_next_0 rfl rfl ?_
  obtain ⟨v4, hf3, h⟩ := BD_el h
  refine ca_X5_36 hj hc hX1 (wz_at hn rfl 0 rfl) (x5_peek_ok hX1 hj (wz_at hn rfl 0 rfl) hf3) (by decide) (Nat.le_of_ble_eq_true rfl) dX5_next_1 ?_
  refine pv_bipush (32 : Int32) hc dX5_next_4 rfl ?_
  obtain ⟨j6, hj6, h⟩ := JN1_el (P := fun u5 => V X 0 0 (wz G [(a, 0, s1)]) [(0, .ref (a + ro j))] [] 18) h (by
      intro u5 h
      refine pv_aload_n 0 hc dX5_next_18 rfl rfl ?_
      refine pv_dup hc dX5_next_19 rfl ?_
      refine gf_X5_19 hj hc hX1 (wz_at hn rfl 0 rfl) dX5_next_20 ?_
      refine pv_iconst (1 : Int32) hc dX5_next_23 rfl ?_
      refine pv_iadd hc dX5_next_24 ?_
      obtain ⟨s7, hs7, h⟩ := LT_el h
      refine pf_X5_19 (G1 := (wz G [(a, 0, s7)])) hj hc hX1 (wz_at hn rfl 0 rfl) hs7 (wz_set hn rfl 0 rfl rfl) dX5_next_25 ?_
      refine pv_goto (tgt := 0) hc dX5_next_28 (by decide) ?_
      exact hrec2 _ h)
  refine pv_icmp_eq (tgt := 18) hc dX5_next_6 (by decide) h (fun h => ?_) (fun h => ?_)
  · exact hj6 _ h
  · refine pv_aload_n 0 hc dX5_next_9 rfl rfl ?_
    obtain ⟨v9, hf8, h⟩ := BD_el h
    refine ca_X5_36 hj hc hX1 (wz_at hn rfl 0 rfl) (x5_peek_ok hX1 hj (wz_at hn rfl 0 rfl) hf8) (by decide) (Nat.le_of_ble_eq_true rfl) dX5_next_10 ?_
    refine pv_bipush (10 : Int32) hc dX5_next_13 rfl ?_
    refine pv_icmp_ne (tgt := 31) hc dX5_next_15 (by decide) h (fun h => ?_) (fun h => ?_)
    · refine pv_aload_n 0 hc dX5_next_31 rfl rfl ?_
      refine pv_aload_n 0 hc dX5_next_32 rfl rfl ?_
      refine gf_X5_19 hj hc hX1 (wz_at hn rfl 0 rfl) dX5_next_33 ?_
      obtain ⟨s10, hs10, h⟩ := LT_el h
      refine pf_X5_40 (G1 := (wz G [(a, 0, s10)])) hj hc hX1 (wz_at hn rfl 0 rfl) hs10 (wz_set hn rfl 0 rfl rfl) dX5_next_36 ?_
      refine pv_aload_n 0 hc dX5_next_39 rfl rfl ?_
      refine gf_X5_3 hj hc hX1 (wz_at hn rfl 0 rfl) dX5_next_40 ?_
      refine gf_X5_25 hc hX1 (wz_at hn rfl 0 rfl) dX5_next_43 ?_
      refine pv_aload_n 0 hc dX5_next_46 rfl rfl ?_
      refine gf_X5_15 hj hc hX1 (wz_at hn rfl 0 rfl) dX5_next_47 ?_
      obtain ⟨j12, hj12, h⟩ := JN1_el (P := fun u11 => V X 0 0 (wz G [(a, 0, s10)]) [(0, .ref (a + ro j))] [] 78) h (by
          intro u11 h
          refine pv_aload_n 0 hc dX5_next_78 rfl rfl ?_
          obtain ⟨v14, hf13, h⟩ := BD_el h
          refine ca_X5_36 hj hc hX1 (wz_at hn rfl 0 rfl) (x5_peek_ok hX1 hj (wz_at hn rfl 0 rfl) hf13) (by decide) (Nat.le_of_ble_eq_true rfl) dX5_next_79 ?_
          refine pv_istore_n (L' := [(1, .int v14), (0, .ref (a + ro j))]) hc dX5_next_82 rfl hN (by decide) rfl ?_
          refine pv_iload_n 0 hc dX5_next_83 rfl rfl ?_
          refine pv_if_ge (tgt := 95) hc dX5_next_84 (by decide) h (fun h => ?_) (fun h => ?_)
          · refine pv_aload_n 1 hc dX5_next_95 rfl rfl ?_
            refine pv_iload_n 0 hc dX5_next_96 rfl rfl ?_
            obtain ⟨v16, hf15, h⟩ := BD_el h
            refine ca_X5_46 hj hc hX1 (wz_at hn rfl 0 rfl) (x5_isLetter_ok hX1 hj (wz_at hn rfl 0 rfl) hf15) (by decide) (Nat.le_of_ble_eq_true rfl) dX5_next_97 ?_
            obtain ⟨j18, hj18, h⟩ := JN1_el (P := fun u17 => V X 0 0 (wz G [(a, 0, s10)]) [(0, .ref (a + ro j)), (1, .int v14)] [] 111) h (by
                intro u17 h
                refine pv_aload_n 0 hc dX5_next_111 rfl rfl ?_
                refine pv_aload_n 0 hc dX5_next_112 rfl rfl ?_
                refine pv_iload_n 1 hc dX5_next_113 rfl rfl ?_
                obtain ⟨v20, hf19, h⟩ := BD_el h
                refine ca_X5_46 hj hc hX1 (wz_at hn rfl 0 rfl) (x5_isLetter_ok hX1 hj (wz_at hn rfl 0 rfl) hf19) (by decide) (Nat.le_of_ble_eq_true rfl) dX5_next_114 ?_
                obtain ⟨s22, hf21, h⟩ := BD_el h
                refine ca_X5_53 hj hc hX1 (wz_at hn rfl 0 rfl) (x5_run_ok hX1 hj (wz_at hn rfl 0 rfl) hf21) (by decide) (Nat.le_of_ble_eq_true rfl) dX5_next_117 ?_
                refine pv_G (wz_set (us := [(a, 0, s10)]) (us' := [(a, 0, s22)]) hn rfl 0 rfl rfl).symm ?_
                refine pv_goto (tgt := 176) hc dX5_next_120 (by decide) ?_
                exact pv_vret hc hr hQ rfl (fin_z (ro := []) (vs := [(a, 0, s22)]) hro (by cases h; rfl)) dX5_next_176)
            refine pv_if_ne (tgt := 111) hc dX5_next_100 (by decide) h (fun h => ?_) (fun h => ?_)
            · refine pv_sub [1, 0] rfl ?_
              exact hj18 _ h
            · refine pv_aload_n 1 hc dX5_next_103 rfl rfl ?_
              refine pv_iload_n 0 hc dX5_next_104 rfl rfl ?_
              obtain ⟨v24, hf23, h⟩ := BD_el h
              refine ca_X5_50 hj hc hX1 (wz_at hn rfl 0 rfl) (x5_isDigit_ok hX1 hj (wz_at hn rfl 0 rfl) hf23) (by decide) (Nat.le_of_ble_eq_true rfl) dX5_next_105 ?_
              refine pv_if_eq (tgt := 123) hc dX5_next_108 (by decide) h (fun h => ?_) (fun h => ?_)
              · refine pv_aload_n 1 hc dX5_next_123 rfl rfl ?_
                refine pv_iload_n 0 hc dX5_next_124 rfl rfl ?_
                refine pv_bipush (59 : Int32) hc dX5_next_125 rfl ?_
                obtain ⟨j26, hj26, h⟩ := JN1_el (P := fun v25 => V X 0 0 (wz G [(a, 0, s10)]) [(0, .ref (a + ro j)), (1, .int v14)] [.int v25, .ref (a + ro j)] 158) h (by
                    intro v25 h
                    obtain ⟨s27, hs27, h⟩ := LT_el h
                    refine pf_X5_43 (G1 := (wz G [(a, 0, s27)])) hj hc hX1 (wz_at hn rfl 0 rfl) hs27 (wz_set hn rfl 0 rfl rfl) dX5_next_158 ?_
                    refine pv_aload_n 0 hc dX5_next_161 rfl rfl ?_
                    refine pv_iload_n 1 hc dX5_next_162 rfl rfl ?_
                    obtain ⟨s28, hs28, h⟩ := LT_el h
                    refine pf_X5_57 (G1 := (wz G [(a, 0, s28)])) hj hc hX1 (wz_at hn rfl 0 rfl) hs28 (wz_set hn rfl 0 rfl rfl) dX5_next_163 ?_
                    refine pv_aload_n 0 hc dX5_next_166 rfl rfl ?_
                    refine pv_dup hc dX5_next_167 rfl ?_
                    refine gf_X5_19 hj hc hX1 (wz_at hn rfl 0 rfl) dX5_next_168 ?_
                    refine pv_iconst (1 : Int32) hc dX5_next_171 rfl ?_
                    refine pv_iadd hc dX5_next_172 ?_
                    obtain ⟨s29, hs29, h⟩ := LT_el h
                    refine pf_X5_19 (G1 := (wz G [(a, 0, s29)])) hj hc hX1 (wz_at hn rfl 0 rfl) hs29 (wz_set hn rfl 0 rfl rfl) dX5_next_173 ?_
                    exact pv_vret hc hr hQ rfl (fin_z (ro := []) (vs := [(a, 0, s29)]) hro (by cases h; rfl)) dX5_next_176)
                refine pv_icmp_eq (tgt := 153) hc dX5_next_127 (by decide) h (fun h => ?_) (fun h => ?_)
                · refine pv_iconst (3 : Int32) hc dX5_next_153 rfl ?_
                  refine pv_goto (tgt := 158) hc dX5_next_154 (by decide) ?_
                  refine pv_sub [1, 0] rfl ?_
                  exact hj26 _ h
                · refine pv_iload_n 0 hc dX5_next_130 rfl rfl ?_
                  refine pv_bipush (40 : Int32) hc dX5_next_131 rfl ?_
                  refine pv_icmp_eq (tgt := 153) hc dX5_next_133 (by decide) h (fun h => ?_) (fun h => ?_)
                  · refine pv_iconst (3 : Int32) hc dX5_next_153 rfl ?_
                    refine pv_goto (tgt := 158) hc dX5_next_154 (by decide) ?_
                    refine pv_sub [1, 0] rfl ?_
                    exact hj26 _ h
                  · refine pv_iload_n 0 hc dX5_next_136 rfl rfl ?_
                    refine pv_bipush (41 : Int32) hc dX5_next_137 rfl ?_
                    refine pv_icmp_eq (tgt := 153) hc dX5_next_139 (by decide) h (fun h => ?_) (fun h => ?_)
                    · refine pv_iconst (3 : Int32) hc dX5_next_153 rfl ?_
                      refine pv_goto (tgt := 158) hc dX5_next_154 (by decide) ?_
                      refine pv_sub [1, 0] rfl ?_
                      exact hj26 _ h
                    · refine pv_iload_n 0 hc dX5_next_142 rfl rfl ?_
                      refine pv_bipush (60 : Int32) hc dX5_next_143 rfl ?_
                      refine pv_bipush (62 : Int32) hc dX5_next_145 rfl ?_
                      obtain ⟨v31, hf30, h⟩ := BD_el h
                      refine ca_X5_32 hc (x1_isIn_ok   hf30) (by decide) (Nat.le_of_ble_eq_true rfl) dX5_next_147 ?_
                      refine pv_if_eq (tgt := 157) hc dX5_next_150 (by decide) h (fun h => ?_) (fun h => ?_)
                      · refine pv_iconst (4 : Int32) hc dX5_next_157 rfl ?_
                        refine pv_sub [1, 0] rfl ?_
                        exact hj26 _ h
                      · refine pv_iconst (3 : Int32) hc dX5_next_153 rfl ?_
                        refine pv_goto (tgt := 158) hc dX5_next_154 (by decide) ?_
                        refine pv_sub [1, 0] rfl ?_
                        exact hj26 _ h
              · refine pv_sub [1, 0] rfl ?_
                exact hj18 _ h
          · refine pv_aload_n 1 hc dX5_next_87 rfl rfl ?_
            refine pv_iconst (0 : Int32) hc dX5_next_88 rfl ?_
            obtain ⟨s32, hs32, h⟩ := LT_el h
            refine pf_X5_43 (G1 := (wz G [(a, 0, s32)])) hj hc hX1 (wz_at hn rfl 0 rfl) hs32 (wz_set hn rfl 0 rfl rfl) dX5_next_89 ?_
            refine pv_goto (tgt := 176) hc dX5_next_92 (by decide) ?_
            exact pv_vret hc hr hQ rfl (fin_z (ro := []) (vs := [(a, 0, s32)]) hro (by cases h; rfl)) dX5_next_176)
      refine pv_icmp_le (tgt := 78) hc dX5_next_50 (by decide) h (fun h => ?_) (fun h => ?_)
      · exact hj12 _ h
      · refine pv_aload_n 0 hc dX5_next_53 rfl rfl ?_
        refine gf_X5_19 hj hc hX1 (wz_at hn rfl 0 rfl) dX5_next_54 ?_
        refine pv_aload_n 0 hc dX5_next_57 rfl rfl ?_
        refine gf_X5_15 hj hc hX1 (wz_at hn rfl 0 rfl) dX5_next_58 ?_
        refine pv_icmp_lt (tgt := 78) hc dX5_next_61 (by decide) h (fun h => ?_) (fun h => ?_)
        · exact hj12 _ h
        · refine pv_aload_n 0 hc dX5_next_64 rfl rfl ?_
          refine pv_aload_n 0 hc dX5_next_65 rfl rfl ?_
          refine gf_X5_15 hj hc hX1 (wz_at hn rfl 0 rfl) dX5_next_66 ?_
          obtain ⟨s33, hs33, h⟩ := LT_el h
          refine pf_X5_40 (G1 := (wz G [(a, 0, s33)])) hj hc hX1 (wz_at hn rfl 0 rfl) hs33 (wz_set hn rfl 0 rfl rfl) dX5_next_69 ?_
          refine pv_aload_n 0 hc dX5_next_72 rfl rfl ?_
          refine pv_iconst (4 : Int32) hc dX5_next_73 rfl ?_
          obtain ⟨s34, hs34, h⟩ := LT_el h
          refine pf_X5_43 (G1 := (wz G [(a, 0, s34)])) hj hc hX1 (wz_at hn rfl 0 rfl) hs34 (wz_set hn rfl 0 rfl rfl) dX5_next_74 ?_
          exact pv_vret hc hr hQ rfl (fin_z (ro := []) (vs := [(a, 0, s34)]) hro (by cases h; rfl)) dX5_next_77
    · exact hj6 _ h
def x5_begin (j : Nat) (s : Rec) : Option Rec := LT (sI s (rb j + 1) (0 : Int32)) (fun s1 => BD (x5_next j s1) (fun s3 => some s3))
set_option maxHeartbeats 4000000 in
theorem x5_begin_ok {l : Launch} {g : Gh} {G : Wd} (hX1 : OKX1 g) {j : Nat} (hj : j < 3) {a : Nat} {s : Rec} (hGt : G.2 a = some (0, s)) {s' : Rec} (hf : x5_begin j s = some s') : MT l g yX5_begin cX5_begin 1 none 5 G [.ref (a + ro j)] none (wp G a 0 s') := by
  refine pv_start (by decide) (Nat.le_of_ble_eq_true rfl) ?_
  intro X hl hg hN hc hr _ _ _ hQ
  subst hl; subst hg
  have hn : ([a] : List Nat).Nodup := nd1 
  have hro := (wz_n : ∀ u ∈ ([] : List (Nat × Nat × Rec)), G.2 u.1 = some u.2)
  refine pv_G (wz_id (us := [(a, 0, s)]) (wz_c hGt wz_n)) ?_
  have h := hf
  unfold x5_begin at h
  show V X 0 0 _ [(0, .ref (a + ro j))] [] 0
  refine pv_aload_n 0 hc dX5_begin_0 rfl rfl ?_
  refine pv_iconst (0 : Int32) hc dX5_begin_1 rfl ?_
  obtain ⟨s1, hs1, h⟩ := LT_el h
  refine pf_X5_19 (G1 := (wz G [(a, 0, s1)])) hj hc hX1 (wz_at hn rfl 0 rfl) hs1 (wz_set hn rfl 0 rfl rfl) dX5_begin_2 ?_
  refine pv_aload_n 0 hc dX5_begin_5 rfl rfl ?_
  obtain ⟨s3, hf2, h⟩ := BD_el h
  refine ca_X5_22 hj hc hX1 (wz_at hn rfl 0 rfl) (x5_next_ok hX1 hj (wz_at hn rfl 0 rfl) hf2) (by decide) (Nat.le_of_ble_eq_true rfl) dX5_begin_6 ?_
  refine pv_G (wz_set (us := [(a, 0, s1)]) (us' := [(a, 0, s3)]) hn rfl 0 rfl rfl).symm ?_
  exact pv_vret hc hr hQ rfl (fin_z (ro := []) (vs := [(a, 0, s3)]) hro (by cases h; rfl)) dX5_begin_9
def x5_is_2 (j : Nat) (s : Rec) (x1 : Int32) : Option Int32 := (if (gI s (rb j + 3)) = (3 : Int32) then (if (gI s (rb j + 4)) = x1 then some (1 : Int32) else some (0 : Int32)) else some (0 : Int32))
set_option maxHeartbeats 4000000 in
theorem x5_is_2_ok {l : Launch} {g : Gh} {G : Wd} (hX1 : OKX1 g) {j : Nat} (hj : j < 3) {a : Nat} {s : Rec} (hGt : G.2 a = some (0, s)) {x1 : Int32} {r : Int32} (hf : x5_is_2 j s x1 = some r) : MT l g yX5_is_2 cX5_is_2 2 (some .boolean) 1 G [.ref (a + ro j), .int x1] (some (.int r)) G := by
  refine pv_start (by decide) (Nat.le_of_ble_eq_true rfl) ?_
  intro X hl hg hN hc hr _ _ _ hQ
  subst hl; subst hg
  have hn : ([a] : List Nat).Nodup := nd1 
  have hro := ((wz_c hGt wz_n) : ∀ u ∈ ([(a, 0, s)] : List (Nat × Nat × Rec)), G.2 u.1 = some u.2)
  refine pv_G (wz_id (us := [(a, 0, s)]) (wz_c hGt wz_n)) ?_
  have h := hf
  unfold x5_is_2 at h
  show V X 0 0 _ [(0, .ref (a + ro j)), (1, .int x1)] [] 0
  refine pv_aload_n 0 hc dX5_is_2_0 rfl rfl ?_
  refine gf_X5_43 hj hc hX1 (wz_at hn rfl 0 rfl) dX5_is_2_1 ?_
  refine pv_iconst (3 : Int32) hc dX5_is_2_4 rfl ?_
  refine pv_icmp_ne (tgt := 20) hc dX5_is_2_5 (by decide) h (fun h => ?_) (fun h => ?_)
  · refine pv_iconst (0 : Int32) hc dX5_is_2_20 rfl ?_
    exact pv_zret hc hr hQ (by decide) (by cases h; rfl) (wz_id hro).symm dX5_is_2_21
  · refine pv_aload_n 0 hc dX5_is_2_8 rfl rfl ?_
    refine gf_X5_57 hj hc hX1 (wz_at hn rfl 0 rfl) dX5_is_2_9 ?_
    refine pv_iload_n 1 hc dX5_is_2_12 rfl rfl ?_
    refine pv_icmp_ne (tgt := 20) hc dX5_is_2_13 (by decide) h (fun h => ?_) (fun h => ?_)
    · refine pv_iconst (0 : Int32) hc dX5_is_2_20 rfl ?_
      exact pv_zret hc hr hQ (by decide) (by cases h; rfl) (wz_id hro).symm dX5_is_2_21
    · refine pv_iconst (1 : Int32) hc dX5_is_2_16 rfl ?_
      refine pv_goto (tgt := 21) hc dX5_is_2_17 (by decide) ?_
      exact pv_zret hc hr hQ (by decide) (by cases h; rfl) (wz_id hro).symm dX5_is_2_21
def x5_is (j : Nat) (s : Rec) (x1 : Nat) : Option Int32 := (if (gI s (rb j + 3)) = (1 : Int32) then (if (gI s (rb j + 5)) = (nI (slen x1)) then LP1 (fun (rec2 : Int32 → Option Int32) (v1 : Int32) => (if (gI s (rb j + 5)) ≤ v1 then some (1 : Int32) else IX ((gI s (rb j + 2)) + v1) 940 (fun i3 => IX v1 (slen x1) (fun i4 => (if (gA s 0 i3) = (sch x1 i4) then rec2 (v1 + (1 : Int32)) else some (0 : Int32)))))) FU (0 : Int32) else some (0 : Int32)) else some (0 : Int32))
set_option maxHeartbeats 4000000 in
theorem x5_is_ok {l : Launch} {g : Gh} {G : Wd} (hX1 : OKX1 g) {j : Nat} (hj : j < 3) {a : Nat} {s : Rec} (hGt : G.2 a = some (0, s)) {x1 : Nat} (x1L : x1 < 41) {r : Int32} (hf : x5_is j s x1 = some r) : MT l g yX5_is cX5_is 3 (some .boolean) 5 G [.ref (a + ro j), .ref (gN g (2 * x1))] (some (.int r)) G := by
  refine pv_start (by decide) (Nat.le_of_ble_eq_true rfl) ?_
  intro X hl hg hN hc hr _ _ _ hQ
  subst hl; subst hg
  have hn : ([a] : List Nat).Nodup := nd1 
  have hro := ((wz_c hGt wz_n) : ∀ u ∈ ([(a, 0, s)] : List (Nat × Nat × Rec)), G.2 u.1 = some u.2)
  refine pv_G (wz_id (us := [(a, 0, s)]) (wz_c hGt wz_n)) ?_
  have h := hf
  unfold x5_is at h
  show V X 0 0 _ [(0, .ref (a + ro j)), (1, .ref (gN (xg X) (2 * x1)))] [] 0
  refine pv_aload_n 0 hc dX5_is_0 rfl rfl ?_
  refine gf_X5_43 hj hc hX1 (wz_at hn rfl 0 rfl) dX5_is_1 ?_
  refine pv_iconst (1 : Int32) hc dX5_is_4 rfl ?_
  refine pv_icmp_ne (tgt := 19) hc dX5_is_5 (by decide) h (fun h => ?_) (fun h => ?_)
  · refine pv_iconst (0 : Int32) hc dX5_is_19 rfl ?_
    exact pv_zret hc hr hQ (by decide) (by cases h; rfl) (wz_id hro).symm dX5_is_20
  · refine pv_aload_n 0 hc dX5_is_8 rfl rfl ?_
    refine gf_X5_64 hj hc hX1 (wz_at hn rfl 0 rfl) dX5_is_9 ?_
    refine pv_aload_n 1 hc dX5_is_12 rfl rfl ?_
    refine st_length_X5 hc hX1 x1L (by decide) (Nat.le_of_ble_eq_true rfl) dX5_is_13 ?_
    refine pv_icmp_eq (tgt := 21) hc dX5_is_16 (by decide) h (fun h => ?_) (fun h => ?_)
    · refine pv_iconst (0 : Int32) hc dX5_is_21 rfl ?_
      refine pv_istore_n (L' := [(2, .int (0 : Int32)), (0, .ref (a + ro j)), (1, .ref (gN (xg X) (2 * x1)))]) hc dX5_is_22 rfl hN (by decide) rfl ?_
      refine pv_sub [1, 2, 0] rfl ?_
      refine LP1_el (P := fun v1 => V X 0 0 (wz G [(a, 0, s)]) [(0, .ref (a + ro j)), (1, .ref (gN (xg X) (2 * x1))), (2, .int v1)] [] 23) ?_ FU _ h
      intro rec2 hrec2 v1 h
      refine pv_iload_n 2 hc dX5_is_23 rfl rfl ?_
      refine pv_aload_n 0 hc dX5_is_24 rfl rfl ?_
      refine gf_X5_64 hj hc hX1 (wz_at hn rfl 0 rfl) dX5_is_25 ?_
      refine pv_icmp_ge (tgt := 61) hc dX5_is_28 (by decide) h (fun h => ?_) (fun h => ?_)
      · refine pv_iconst (1 : Int32) hc dX5_is_61 rfl ?_
        exact pv_zret hc hr hQ (by decide) (by cases h; rfl) (wz_id hro).symm dX5_is_62
      · refine pv_aload_n 0 hc dX5_is_31 rfl rfl ?_
        refine gf_X5_3 hj hc hX1 (wz_at hn rfl 0 rfl) dX5_is_32 ?_
        refine gf_X5_28 hc hX1 (wz_at hn rfl 0 rfl) dX5_is_35 ?_
        refine pv_aload_n 0 hc dX5_is_38 rfl rfl ?_
        refine gf_X5_40 hj hc hX1 (wz_at hn rfl 0 rfl) dX5_is_39 ?_
        refine pv_iload_n 2 hc dX5_is_42 rfl rfl ?_
        refine pv_iadd hc dX5_is_43 ?_
        obtain ⟨i3, hi3, h⟩ := IX_el h
        refine al_X1_tape hc hX1 (wz_at hn rfl 0 rfl) hi3 dX5_is_44 ?_
        refine pv_aload_n 1 hc dX5_is_45 rfl rfl ?_
        refine pv_iload_n 2 hc dX5_is_46 rfl rfl ?_
        obtain ⟨i4, hi4, h⟩ := IX_el h
        refine st_charAt_X5 hc hX1 x1L hi4 (by decide) (Nat.le_of_ble_eq_true rfl) dX5_is_47 ?_
        refine pv_icmp_eq (tgt := 55) hc dX5_is_50 (by decide) h (fun h => ?_) (fun h => ?_)
        · refine pv_iinc (L' := [(2, .int (v1 + (1 : Int32))), (0, .ref (a + ro j)), (1, .ref (gN (xg X) (2 * x1)))]) 2 (v1 + (1 : Int32)) hc dX5_is_55 rfl rfl hN (by decide) rfl ?_
          refine pv_goto (tgt := 23) hc dX5_is_58 (by decide) ?_
          refine pv_sub [1, 2, 0] rfl ?_
          exact hrec2 _ h
        · refine pv_iconst (0 : Int32) hc dX5_is_53 rfl ?_
          exact pv_zret hc hr hQ (by decide) (by cases h; rfl) (wz_id hro).symm dX5_is_54
    · refine pv_iconst (0 : Int32) hc dX5_is_19 rfl ?_
      exact pv_zret hc hr hQ (by decide) (by cases h; rfl) (wz_id hro).symm dX5_is_20
def x5_find (j : Nat) (s : Rec) (x1 : Nat → Nat) (x1N : Nat) : Option Int32 := LP1 (fun (rec2 : Int32 → Option Int32) (v1 : Int32) => (if (nI x1N) ≤ v1 then some (-1 : Int32) else IX v1 x1N (fun i3 => BD (x5_is j s (x1 i3)) (fun v5 => (if v5 = 0 then rec2 (v1 + (1 : Int32)) else some v1))))) FU (0 : Int32)
set_option maxHeartbeats 4000000 in
theorem x5_find_ok {l : Launch} {g : Gh} {G : Wd} (hX1 : OKX1 g) {j : Nat} (hj : j < 3) {a : Nat} {s : Rec} (hGt : G.2 a = some (0, s)) {x1 : Nat → Nat} {x1N x1o x1q : Nat} (x1E : ∀ r, (gE g 0 a r)[x1o]? = some (x1q, .inl (kap g 4, x1N, .inr (.inr (.inr (.inr (fun i => some (gN g (2 * x1 i))))))))) (x1L : ∀ i, i < x1N → x1 i < 41) {r : Int32} (hf : x5_find j s x1 x1N = some r) : MT l g yX5_find cX5_find 3 (some .int) 6 G [.ref (a + ro j), .ref x1q] (some (.int r)) G := by
  refine pv_start (by decide) (Nat.le_of_ble_eq_true rfl) ?_
  intro X hl hg hN hc hr _ _ _ hQ
  subst hl; subst hg
  have hn : ([a] : List Nat).Nodup := nd1 
  have hro := ((wz_c hGt wz_n) : ∀ u ∈ ([(a, 0, s)] : List (Nat × Nat × Rec)), G.2 u.1 = some u.2)
  refine pv_G (wz_id (us := [(a, 0, s)]) (wz_c hGt wz_n)) ?_
  have h := hf
  unfold x5_find at h
  show V X 0 0 _ [(0, .ref (a + ro j)), (1, .ref x1q)] [] 0
  refine pv_iconst (0 : Int32) hc dX5_find_0 rfl ?_
  refine pv_istore_n (L' := [(2, .int (0 : Int32)), (0, .ref (a + ro j)), (1, .ref x1q)]) hc dX5_find_1 rfl hN (by decide) rfl ?_
  refine pv_sub [1, 2, 0] rfl ?_
  refine LP1_el (P := fun v1 => V X 0 0 (wz G [(a, 0, s)]) [(0, .ref (a + ro j)), (1, .ref x1q), (2, .int v1)] [] 2) ?_ FU _ h
  intro rec2 hrec2 v1 h
  refine pv_iload_n 2 hc dX5_find_2 rfl rfl ?_
  refine pv_aload_n 1 hc dX5_find_3 rfl rfl ?_
  refine pv_alen hc (wz_at hn rfl 0 rfl) (x1E _) (xt4 hX1) dX5_find_4 ?_
  refine pv_icmp_ge (tgt := 26) hc dX5_find_5 (by decide) h (fun h => ?_) (fun h => ?_)
  · refine pv_iconst (-1 : Int32) hc dX5_find_26 rfl ?_
    exact pv_iret hc hr hQ (by cases h; rfl) (wz_id hro).symm dX5_find_27
  · refine pv_aload_n 0 hc dX5_find_8 rfl rfl ?_
    refine pv_aload_n 1 hc dX5_find_9 rfl rfl ?_
    refine pv_iload_n 2 hc dX5_find_10 rfl rfl ?_
    obtain ⟨i3, hi3, h⟩ := IX_el h
    refine pv_aald hc (wz_at hn rfl 0 rfl) (x1E _) 4 (xt4 hX1) hi3 rfl dX5_find_11 ?_
    obtain ⟨v5, hf4, h⟩ := BD_el h
    refine ca_X5_76 hj hc hX1 (wz_at hn rfl 0 rfl) (x5_is_ok hX1 hj (wz_at hn rfl 0 rfl) (x1L i3 (ix_lt hi3)) hf4) (by decide) (Nat.le_of_ble_eq_true rfl) dX5_find_12 ?_
    refine pv_if_eq (tgt := 20) hc dX5_find_15 (by decide) h (fun h => ?_) (fun h => ?_)
    · refine pv_iinc (L' := [(2, .int (v1 + (1 : Int32))), (0, .ref (a + ro j)), (1, .ref x1q)]) 2 (v1 + (1 : Int32)) hc dX5_find_20 rfl rfl hN (by decide) rfl ?_
      refine pv_goto (tgt := 2) hc dX5_find_23 (by decide) ?_
      refine pv_sub [1, 2, 0] rfl ?_
      exact hrec2 _ h
    · refine pv_iload_n 2 hc dX5_find_18 rfl rfl ?_
      exact pv_iret hc hr hQ (by cases h; rfl) (wz_id hro).symm dX5_find_19
def x5_isName (j : Nat) (s : Rec) : Option Int32 := (if (gI s (rb j + 3)) = (1 : Int32) then BD (x5_find j s (fun i => i + 0) 7) (fun v2 => (if v2 = (-1 : Int32) then BD (x5_find j s (fun i => i + 7) 15) (fun v4 => (if v4 = (-1 : Int32) then some (1 : Int32) else some (0 : Int32))) else some (0 : Int32))) else some (0 : Int32))
set_option maxHeartbeats 4000000 in
theorem x5_isName_ok {l : Launch} {g : Gh} {G : Wd} (hX1 : OKX1 g) {j : Nat} (hj : j < 3) {a : Nat} {s : Rec} (hGt : G.2 a = some (0, s)) {r : Int32} (hf : x5_isName j s = some r) : MT l g yX5_isName cX5_isName 1 (some .boolean) 7 G [.ref (a + ro j)] (some (.int r)) G := by
  refine pv_start (by decide) (Nat.le_of_ble_eq_true rfl) ?_
  intro X hl hg hN hc hr _ _ _ hQ
  subst hl; subst hg
  have hn : ([a] : List Nat).Nodup := nd1 
  have hro := ((wz_c hGt wz_n) : ∀ u ∈ ([(a, 0, s)] : List (Nat × Nat × Rec)), G.2 u.1 = some u.2)
  refine pv_G (wz_id (us := [(a, 0, s)]) (wz_c hGt wz_n)) ?_
  have h := hf
  unfold x5_isName at h
  show V X 0 0 _ [(0, .ref (a + ro j))] [] 0
  refine pv_aload_n 0 hc dX5_isName_0 rfl rfl ?_
  refine gf_X5_43 hj hc hX1 (wz_at hn rfl 0 rfl) dX5_isName_1 ?_
  refine pv_iconst (1 : Int32) hc dX5_isName_4 rfl ?_
  refine pv_icmp_ne (tgt := 42) hc dX5_isName_5 (by decide) h (fun h => ?_) (fun h => ?_)
  · refine pv_iconst (0 : Int32) hc dX5_isName_42 rfl ?_
    exact pv_zret hc hr hQ (by decide) (by cases h; rfl) (wz_id hro).symm dX5_isName_43
  · refine pv_aload_n 0 hc dX5_isName_8 rfl rfl ?_
    refine pv_aload_n 0 hc dX5_isName_9 rfl rfl ?_
    refine gf_X5_3 hj hc hX1 (wz_at hn rfl 0 rfl) dX5_isName_10 ?_
    refine gf_X5_80 hc hX1 (wz_at hn rfl 0 rfl) dX5_isName_13 ?_
    obtain ⟨v2, hf1, h⟩ := BD_el h
    refine ca_X5_84 hj hc hX1 (wz_at hn rfl 0 rfl) (x5_find_ok hX1 hj (wz_at hn rfl 0 rfl) (fun _ => v_lines hX1) (fun i hi => by omega) hf1) (by decide) (Nat.le_of_ble_eq_true rfl) dX5_isName_16 ?_
    refine pv_iconst (-1 : Int32) hc dX5_isName_19 rfl ?_
    refine pv_icmp_ne (tgt := 42) hc dX5_isName_20 (by decide) h (fun h => ?_) (fun h => ?_)
    · refine pv_iconst (0 : Int32) hc dX5_isName_42 rfl ?_
      exact pv_zret hc hr hQ (by decide) (by cases h; rfl) (wz_id hro).symm dX5_isName_43
    · refine pv_aload_n 0 hc dX5_isName_23 rfl rfl ?_
      refine pv_aload_n 0 hc dX5_isName_24 rfl rfl ?_
      refine gf_X5_3 hj hc hX1 (wz_at hn rfl 0 rfl) dX5_isName_25 ?_
      refine gf_X5_88 hc hX1 (wz_at hn rfl 0 rfl) dX5_isName_28 ?_
      obtain ⟨v4, hf3, h⟩ := BD_el h
      refine ca_X5_84 hj hc hX1 (wz_at hn rfl 0 rfl) (x5_find_ok hX1 hj (wz_at hn rfl 0 rfl) (fun _ => v_words hX1) (fun i hi => by omega) hf3) (by decide) (Nat.le_of_ble_eq_true rfl) dX5_isName_31 ?_
      refine pv_iconst (-1 : Int32) hc dX5_isName_34 rfl ?_
      refine pv_icmp_ne (tgt := 42) hc dX5_isName_35 (by decide) h (fun h => ?_) (fun h => ?_)
      · refine pv_iconst (0 : Int32) hc dX5_isName_42 rfl ?_
        exact pv_zret hc hr hQ (by decide) (by cases h; rfl) (wz_id hro).symm dX5_isName_43
      · refine pv_iconst (1 : Int32) hc dX5_isName_38 rfl ?_
        refine pv_goto (tgt := 43) hc dX5_isName_39 (by decide) ?_
        exact pv_zret hc hr hQ (by decide) (by cases h; rfl) (wz_id hro).symm dX5_isName_43
def x5_wrong (j : Nat) (s : Rec) (x1 : Int32) : Option Rec := LT (sI s 40 x1) (fun s1 => LT (sI s1 41 (gI s1 (rb j + 2))) (fun s2 => some s2))
set_option maxHeartbeats 4000000 in
theorem x5_wrong_ok {l : Launch} {g : Gh} {G : Wd} (hX1 : OKX1 g) {j : Nat} (hj : j < 3) {a : Nat} {s : Rec} (hGt : G.2 a = some (0, s)) {x1 : Int32} {s' : Rec} (hf : x5_wrong j s x1 = some s') : MT l g yX5_wrong cX5_wrong 2 (some (.object "ParlourLeaves$Fault")) 1 G [.ref (a + ro j), .int x1] (some (.ref (a + 2))) (wp G a 0 s') := by
  refine pv_start (by decide) (Nat.le_of_ble_eq_true rfl) ?_
  intro X hl hg hN hc hr _ _ _ hQ
  subst hl; subst hg
  have hn : ([a] : List Nat).Nodup := nd1 
  have hro := (wz_n : ∀ u ∈ ([] : List (Nat × Nat × Rec)), G.2 u.1 = some u.2)
  refine pv_G (wz_id (us := [(a, 0, s)]) (wz_c hGt wz_n)) ?_
  have h := hf
  unfold x5_wrong at h
  show V X 0 0 _ [(0, .ref (a + ro j)), (1, .int x1)] [] 0
  refine pv_aload_n 0 hc dX5_wrong_0 rfl rfl ?_
  refine gf_X5_3 hj hc hX1 (wz_at hn rfl 0 rfl) dX5_wrong_1 ?_
  refine gf_X5_91 hc hX1 (wz_at hn rfl 0 rfl) dX5_wrong_4 ?_
  refine pv_iload_n 1 hc dX5_wrong_7 rfl rfl ?_
  obtain ⟨s1, hs1, h⟩ := LT_el h
  refine pf_X5_95 (G1 := (wz G [(a, 0, s1)])) hc hX1 (wz_at hn rfl 0 rfl) hs1 (wz_set hn rfl 0 rfl rfl) dX5_wrong_8 ?_
  refine pv_aload_n 0 hc dX5_wrong_11 rfl rfl ?_
  refine gf_X5_3 hj hc hX1 (wz_at hn rfl 0 rfl) dX5_wrong_12 ?_
  refine gf_X5_91 hc hX1 (wz_at hn rfl 0 rfl) dX5_wrong_15 ?_
  refine pv_aload_n 0 hc dX5_wrong_18 rfl rfl ?_
  refine gf_X5_40 hj hc hX1 (wz_at hn rfl 0 rfl) dX5_wrong_19 ?_
  obtain ⟨s2, hs2, h⟩ := LT_el h
  refine pf_X5_100 (G1 := (wz G [(a, 0, s2)])) hc hX1 (wz_at hn rfl 0 rfl) hs2 (wz_set hn rfl 0 rfl rfl) dX5_wrong_22 ?_
  refine pv_aload_n 0 hc dX5_wrong_25 rfl rfl ?_
  refine gf_X5_3 hj hc hX1 (wz_at hn rfl 0 rfl) dX5_wrong_26 ?_
  refine gf_X5_91 hc hX1 (wz_at hn rfl 0 rfl) dX5_wrong_29 ?_
  exact pv_aret hc hr hQ rfl (fin_z (ro := []) (vs := [(a, 0, s2)]) hro (by cases h; rfl)) dX5_wrong_32
def x5_must (j : Nat) (s : Rec) (x1 : Int32) (x2 : Int32) : Option (Option Unit × Rec) := (if x1 = 0 then BD (x5_wrong j s x2) (fun s2 => some (none, s2)) else some (some (), s))
set_option maxHeartbeats 4000000 in
theorem x5_must_ok {l : Launch} {g : Gh} {G : Wd} (hX1 : OKX1 g) {j : Nat} (hj : j < 3) {a : Nat} {s : Rec} (hGt : G.2 a = some (0, s)) {x1 : Int32} {x2 : Int32} {o : Option Unit} {s' : Rec} (hf : x5_must j s x1 x2 = some (o, s')) : MXa l g yX5_must cX5_must 3 none 2 0 0 (a + 2) "ParlourLeaves$Fault" G [.ref (a + ro j), .int x1, .int x2] (o.map (fun _ => none)) (wp G a 0 s') := by
  refine pv_startX (by decide) (Nat.le_of_ble_eq_true rfl) ?_
  intro X hl hg hN hc hr htb _ _ hQ
  subst hl; subst hg
  have hn : ([a] : List Nat).Nodup := nd1 
  have hro := (wz_n : ∀ u ∈ ([] : List (Nat × Nat × Rec)), G.2 u.1 = some u.2)
  refine pv_G (wz_id (us := [(a, 0, s)]) (wz_c hGt wz_n)) ?_
  have h := hf
  unfold x5_must at h
  show V X 0 0 _ [(0, .ref (a + ro j)), (1, .int x1), (2, .int x2)] [] 0
  refine pv_iload_n 1 hc dX5_must_0 rfl rfl ?_
  refine pv_if_ne (tgt := 10) hc dX5_must_1 (by decide) h (fun h => ?_) (fun h => ?_)
  · exact px_vret hc hr hQ (by cases h; rfl) (fin_z (ro := []) (vs := [(a, 0, s)]) hro (by cases h; rfl)) dX5_must_10
  · refine pv_aload_n 0 hc dX5_must_4 rfl rfl ?_
    refine pv_iload_n 2 hc dX5_must_5 rfl rfl ?_
    obtain ⟨s2, hf1, h⟩ := BD_el h
    refine ca_X5_103 hj hc hX1 (wz_at hn rfl 0 rfl) (x5_wrong_ok hX1 hj (wz_at hn rfl 0 rfl) hf1) (by decide) (Nat.le_of_ble_eq_true rfl) dX5_must_6 ?_
    refine pv_G (wz_set (us := [(a, 0, s)]) (us' := [(a, 0, s2)]) hn rfl 0 rfl rfl).symm ?_
    exact px_athrow hc htb (wz_at hn rfl 0 rfl) (o_X2 hX1) (xk1 hX1) hQ (by cases h; rfl) (fin_z (ro := []) (vs := [(a, 0, s2)]) hro (by cases h; rfl)) (Nat.zero_le _) (Nat.zero_le _) dX5_must_9
def x5_sign (j : Nat) (s : Rec) (x1 : Int32) : Option (Option Unit × Rec) := BD (x5_is_2 j s x1) (fun v2 => BX (x5_must j s v2 (1 : Int32)) (fun s4 => some (none, s4)) (fun u5 s4 => BD (x5_next j s4) (fun s7 => some (some (), s7))))
set_option maxHeartbeats 4000000 in
theorem x5_sign_ok {l : Launch} {g : Gh} {G : Wd} (hX1 : OKX1 g) {j : Nat} (hj : j < 3) {a : Nat} {s : Rec} (hGt : G.2 a = some (0, s)) {x1 : Int32} {o : Option Unit} {s' : Rec} (hf : x5_sign j s x1 = some (o, s')) : MXa l g yX5_sign cX5_sign 2 none 5 0 0 (a + 2) "ParlourLeaves$Fault" G [.ref (a + ro j), .int x1] (o.map (fun _ => none)) (wp G a 0 s') := by
  refine pv_startX (by decide) (Nat.le_of_ble_eq_true rfl) ?_
  intro X hl hg hN hc hr htb _ _ hQ
  subst hl; subst hg
  have hn : ([a] : List Nat).Nodup := nd1 
  have hro := (wz_n : ∀ u ∈ ([] : List (Nat × Nat × Rec)), G.2 u.1 = some u.2)
  refine pv_G (wz_id (us := [(a, 0, s)]) (wz_c hGt wz_n)) ?_
  have h := hf
  unfold x5_sign at h
  show V X 0 0 _ [(0, .ref (a + ro j)), (1, .int x1)] [] 0
  refine pv_aload_n 0 hc dX5_sign_0 rfl rfl ?_
  refine pv_aload_n 0 hc dX5_sign_1 rfl rfl ?_
  refine pv_iload_n 1 hc dX5_sign_2 rfl rfl ?_
  obtain ⟨v2, hf1, h⟩ := BD_el h
  refine ca_X5_107 hj hc hX1 (wz_at hn rfl 0 rfl) (x5_is_2_ok hX1 hj (wz_at hn rfl 0 rfl) hf1) (by decide) (Nat.le_of_ble_eq_true rfl) dX5_sign_3 ?_
  refine pv_iconst (1 : Int32) hc dX5_sign_6 rfl ?_
  rcases BX_el h with ⟨s4, hf3, h⟩ | ⟨u5, s4, hf3, h⟩
  · exact px_backT hc htb (cr_X5_109 hj hc hX1 (wz_at hn rfl 0 rfl) (x5_must_ok hX1 hj (wz_at hn rfl 0 rfl) hf3) (by decide) (Nat.le_of_ble_eq_true rfl) dX5_sign_7) ⟨Nat.zero_le _, Nat.zero_le _⟩ hQ (by cases h; rfl) ((fin_z (ro := []) (vs := [(a, 0, s4)]) hro (by cases h; rfl)).trans (wz_set (us := [(a, 0, s)]) (us' := [(a, 0, s4)]) hn rfl 0 rfl rfl).symm) (Nat.zero_le _) (Nat.zero_le _)
  refine px_backRv (cr_X5_109 hj hc hX1 (wz_at hn rfl 0 rfl) (x5_must_ok hX1 hj (wz_at hn rfl 0 rfl) hf3) (by decide) (Nat.le_of_ble_eq_true rfl) dX5_sign_7) ⟨Nat.zero_le _, Nat.zero_le _⟩ ?_
  refine pv_G (wz_set (us := [(a, 0, s)]) (us' := [(a, 0, s4)]) hn rfl 0 rfl rfl).symm ?_
  refine pv_aload_n 0 hc dX5_sign_10 rfl rfl ?_
  obtain ⟨s7, hf6, h⟩ := BD_el h
  refine ca_X5_22 hj hc hX1 (wz_at hn rfl 0 rfl) (x5_next_ok hX1 hj (wz_at hn rfl 0 rfl) hf6) (by decide) (Nat.le_of_ble_eq_true rfl) dX5_sign_11 ?_
  refine pv_G (wz_set (us := [(a, 0, s4)]) (us' := [(a, 0, s7)]) hn rfl 0 rfl rfl).symm ?_
  exact px_vret hc hr hQ (by cases h; rfl) (fin_z (ro := []) (vs := [(a, 0, s7)]) hro (by cases h; rfl)) dX5_sign_14
def x5_number (j : Nat) (s : Rec) (x1 : Int32) (x2 : Int32) : Option (Option Int32 × Rec) := JN1 (fun (v1 : Int32) => BX (x5_must j s v1 (1 : Int32)) (fun s4 => some (none, s4)) (fun u5 s4 => BD (x1_isIn (gI s4 (rb j + 4)) x1 x2) (fun v7 => BX (x5_must j s4 v7 (2 : Int32)) (fun s9 => some (none, s9)) (fun u10 s9 => BD (x5_next j s9) (fun s12 => some (some (gI s9 (rb j + 4)), s12)))))) (fun (j2 : Int32 → Option (Option Int32 × Rec)) => (if (gI s (rb j + 3)) = (2 : Int32) then j2 (1 : Int32) else j2 (0 : Int32)))
set_option maxHeartbeats 4000000 in
theorem x5_number_ok {l : Launch} {g : Gh} {G : Wd} (hX1 : OKX1 g) {j : Nat} (hj : j < 3) {a : Nat} {s : Rec} (hGt : G.2 a = some (0, s)) {x1 : Int32} {x2 : Int32} {o : Option Int32} {s' : Rec} (hf : x5_number j s x1 x2 = some (o, s')) : MXa l g yX5_number cX5_number 4 (some .int) 5 0 0 (a + 2) "ParlourLeaves$Fault" G [.ref (a + ro j), .int x1, .int x2] (o.map (fun v => some (.int v))) (wp G a 0 s') := by
  refine pv_startX (by decide) (Nat.le_of_ble_eq_true rfl) ?_
  intro X hl hg hN hc hr htb _ _ hQ
  subst hl; subst hg
  have hn : ([a] : List Nat).Nodup := nd1 
  have hro := (wz_n : ∀ u ∈ ([] : List (Nat × Nat × Rec)), G.2 u.1 = some u.2)
  refine pv_G (wz_id (us := [(a, 0, s)]) (wz_c hGt wz_n)) ?_
  have h := hf
  unfold x5_number at h
  show V X 0 0 _ [(0, .ref (a + ro j)), (1, .int x1), (2, .int x2)] [] 0
  refine pv_aload_n 0 hc dX5_number_0 rfl rfl ?_
  refine pv_aload_n 0 hc dX5_number_1 rfl rfl ?_
  refine gf_X5_43 hj hc hX1 (wz_at hn rfl 0 rfl) dX5_number_2 ?_
  refine pv_iconst (2 : Int32) hc dX5_number_5 rfl ?_
  obtain ⟨j2, hj2, h⟩ := JN1_el (P := fun v1 => V X 0 0 (wz G [(a, 0, s)]) [(0, .ref (a + ro j)), (1, .int x1), (2, .int x2)] [.int v1, .ref (a + ro j)] 14) h (by
      intro v1 h
      refine pv_iconst (1 : Int32) hc dX5_number_14 rfl ?_
      rcases BX_el h with ⟨s4, hf3, h⟩ | ⟨u5, s4, hf3, h⟩
      · exact px_backT hc htb (cr_X5_109 hj hc hX1 (wz_at hn rfl 0 rfl) (x5_must_ok hX1 hj (wz_at hn rfl 0 rfl) hf3) (by decide) (Nat.le_of_ble_eq_true rfl) dX5_number_15) ⟨Nat.zero_le _, Nat.zero_le _⟩ hQ (by cases h; rfl) ((fin_z (ro := []) (vs := [(a, 0, s4)]) hro (by cases h; rfl)).trans (wz_set (us := [(a, 0, s)]) (us' := [(a, 0, s4)]) hn rfl 0 rfl rfl).symm) (Nat.zero_le _) (Nat.zero_le _)
      refine px_backRv (cr_X5_109 hj hc hX1 (wz_at hn rfl 0 rfl) (x5_must_ok hX1 hj (wz_at hn rfl 0 rfl) hf3) (by decide) (Nat.le_of_ble_eq_true rfl) dX5_number_15) ⟨Nat.zero_le _, Nat.zero_le _⟩ ?_
      refine pv_G (wz_set (us := [(a, 0, s)]) (us' := [(a, 0, s4)]) hn rfl 0 rfl rfl).symm ?_
      refine pv_aload_n 0 hc dX5_number_18 rfl rfl ?_
      refine pv_aload_n 0 hc dX5_number_19 rfl rfl ?_
      refine gf_X5_57 hj hc hX1 (wz_at hn rfl 0 rfl) dX5_number_20 ?_
      refine pv_iload_n 1 hc dX5_number_23 rfl rfl ?_
      refine pv_iload_n 2 hc dX5_number_24 rfl rfl ?_
      obtain ⟨v7, hf6, h⟩ := BD_el h
      refine ca_X5_32 hc (x1_isIn_ok   hf6) (by decide) (Nat.le_of_ble_eq_true rfl) dX5_number_25 ?_
      refine pv_iconst (2 : Int32) hc dX5_number_28 rfl ?_
      rcases BX_el h with ⟨s9, hf8, h⟩ | ⟨u10, s9, hf8, h⟩
      · exact px_backT hc htb (cr_X5_109 hj hc hX1 (wz_at hn rfl 0 rfl) (x5_must_ok hX1 hj (wz_at hn rfl 0 rfl) hf8) (by decide) (Nat.le_of_ble_eq_true rfl) dX5_number_29) ⟨Nat.zero_le _, Nat.zero_le _⟩ hQ (by cases h; rfl) ((fin_z (ro := []) (vs := [(a, 0, s9)]) hro (by cases h; rfl)).trans (wz_set (us := [(a, 0, s4)]) (us' := [(a, 0, s9)]) hn rfl 0 rfl rfl).symm) (Nat.zero_le _) (Nat.zero_le _)
      refine px_backRv (cr_X5_109 hj hc hX1 (wz_at hn rfl 0 rfl) (x5_must_ok hX1 hj (wz_at hn rfl 0 rfl) hf8) (by decide) (Nat.le_of_ble_eq_true rfl) dX5_number_29) ⟨Nat.zero_le _, Nat.zero_le _⟩ ?_
      refine pv_G (wz_set (us := [(a, 0, s4)]) (us' := [(a, 0, s9)]) hn rfl 0 rfl rfl).symm ?_
      refine pv_aload_n 0 hc dX5_number_32 rfl rfl ?_
      refine gf_X5_57 hj hc hX1 (wz_at hn rfl 0 rfl) dX5_number_33 ?_
      refine pv_istore_n (L' := [(3, .int (gI s9 (rb j + 4))), (0, .ref (a + ro j)), (1, .int x1), (2, .int x2)]) hc dX5_number_36 rfl hN (by decide) rfl ?_
      refine pv_aload_n 1 hc dX5_number_37 rfl rfl ?_
      obtain ⟨s12, hf11, h⟩ := BD_el h
      refine ca_X5_22 hj hc hX1 (wz_at hn rfl 0 rfl) (x5_next_ok hX1 hj (wz_at hn rfl 0 rfl) hf11) (by decide) (Nat.le_of_ble_eq_true rfl) dX5_number_38 ?_
      refine pv_G (wz_set (us := [(a, 0, s9)]) (us' := [(a, 0, s12)]) hn rfl 0 rfl rfl).symm ?_
      refine pv_iload_n 0 hc dX5_number_41 rfl rfl ?_
      exact px_iret hc hr hQ (by cases h; rfl) (fin_z (ro := []) (vs := [(a, 0, s12)]) hro (by cases h; rfl)) dX5_number_42)
  refine pv_icmp_ne (tgt := 13) hc dX5_number_6 (by decide) h (fun h => ?_) (fun h => ?_)
  · refine pv_iconst (0 : Int32) hc dX5_number_13 rfl ?_
    exact hj2 _ h
  · refine pv_iconst (1 : Int32) hc dX5_number_9 rfl ?_
    refine pv_goto (tgt := 14) hc dX5_number_10 (by decide) ?_
    exact hj2 _ h
def x5_of (j : Nat) (s : Rec) (x1 : Nat → Int64) (x1N : Nat) (x2 : Int32) : Option Int32 := LP1 (fun (rec2 : Int32 → Option Int32) (v1 : Int32) => (if x2 ≤ v1 then some (-1 : Int32) else IX v1 x1N (fun i3 => (if (lg_cmp (x1 i3) (gJ s (rb j + 6))) = 0 then some v1 else rec2 (v1 + (1 : Int32)))))) FU (0 : Int32)
set_option maxHeartbeats 4000000 in
theorem x5_of_ok {l : Launch} {g : Gh} {G : Wd} (hX1 : OKX1 g) (hX3 : OKX3 g) {j : Nat} (hj : j < 3) {a : Nat} {s : Rec} (hGt : G.2 a = some (0, s)) {b : Nat} {e : Rec} (hGh : G.2 b = some (2, e)) {x1 : Nat → Int64} {x1N x1o x1q : Nat} (x1E : (gE g 2 b e)[x1o]? = some (x1q, .inl (kap g 1, x1N, .inr (.inl x1)))) {x2 : Int32} {r : Int32} (hf : x5_of j s x1 x1N x2 = some r) : MT l g yX5_of cX5_of 4 (some .int) 1 G [.ref (a + ro j), .ref x1q, .int x2] (some (.int r)) G := by
  refine pv_start (by decide) (Nat.le_of_ble_eq_true rfl) ?_
  intro X hl hg hN hc hr _ _ _ hQ
  subst hl; subst hg
  have hn : ([b, a] : List Nat).Nodup := nd2 (kd_ne hGh hGt (by decide))
  have hro := ((wz_c hGh (wz_c hGt wz_n)) : ∀ u ∈ ([(b, 2, e), (a, 0, s)] : List (Nat × Nat × Rec)), G.2 u.1 = some u.2)
  refine pv_G (wz_id (us := [(b, 2, e), (a, 0, s)]) (wz_c hGh (wz_c hGt wz_n))) ?_
  have h := hf
  unfold x5_of at h
  show V X 0 0 _ [(0, .ref (a + ro j)), (1, .ref x1q), (2, .int x2)] [] 0
  refine pv_iconst (0 : Int32) hc dX5_of_0 rfl ?_
  refine pv_istore_n (L' := [(3, .int (0 : Int32)), (0, .ref (a + ro j)), (1, .ref x1q), (2, .int x2)]) hc dX5_of_1 rfl hN (by decide) rfl ?_
  refine pv_sub [1, 2, 3, 0] rfl ?_
  refine LP1_el (P := fun v1 => V X 0 0 (wz G [(b, 2, e), (a, 0, s)]) [(0, .ref (a + ro j)), (1, .ref x1q), (2, .int x2), (3, .int v1)] [] 2) ?_ FU _ h
  intro rec2 hrec2 v1 h
  refine pv_iload_n 3 hc dX5_of_2 rfl rfl ?_
  refine pv_iload_n 2 hc dX5_of_3 rfl rfl ?_
  refine pv_icmp_ge (tgt := 26) hc dX5_of_4 (by decide) h (fun h => ?_) (fun h => ?_)
  · refine pv_iconst (-1 : Int32) hc dX5_of_26 rfl ?_
    exact pv_iret hc hr hQ (by cases h; rfl) (wz_id hro).symm dX5_of_27
  · refine pv_aload_n 1 hc dX5_of_7 rfl rfl ?_
    refine pv_iload_n 3 hc dX5_of_8 rfl rfl ?_
    obtain ⟨i3, hi3, h⟩ := IX_el h
    refine pv_lald hc (wz_at hn rfl 0 rfl) x1E 1 hX3.2.2.2 hi3 dX5_of_9 ?_
    refine pv_aload_n 0 hc dX5_of_10 rfl rfl ?_
    refine gf_X5_60 hj hc hX1 (wz_at hn rfl 1 rfl) dX5_of_11 ?_
    refine pv_lcmp hc dX5_of_14 ?_
    refine pv_if_ne (tgt := 20) hc dX5_of_15 (by decide) h (fun h => ?_) (fun h => ?_)
    · refine pv_iinc (L' := [(3, .int (v1 + (1 : Int32))), (0, .ref (a + ro j)), (1, .ref x1q), (2, .int x2)]) 3 (v1 + (1 : Int32)) hc dX5_of_20 rfl rfl hN (by decide) rfl ?_
      refine pv_goto (tgt := 2) hc dX5_of_23 (by decide) ?_
      refine pv_sub [1, 2, 3, 0] rfl ?_
      exact hrec2 _ h
    · refine pv_iload_n 3 hc dX5_of_18 rfl rfl ?_
      exact pv_iret hc hr hQ (by cases h; rfl) (wz_id hro).symm dX5_of_19
def x5_look (j : Nat) (s : Rec) (x1 : Nat → Int64) (x1N : Nat) (x2 : Int32) : Option (Option Int32 × Rec) := BD (x5_isName j s) (fun v2 => BX (x5_must j s v2 (1 : Int32)) (fun s4 => some (none, s4)) (fun u5 s4 => BD (x5_of j s4 x1 x1N x2) (fun v7 => (if v7 = (-1 : Int32) then BX (x5_must j s4 (0 : Int32) (3 : Int32)) (fun s9 => some (none, s9)) (fun u10 s9 => some (some v7, s9)) else BX (x5_must j s4 (1 : Int32) (3 : Int32)) (fun s12 => some (none, s12)) (fun u13 s12 => some (some v7, s12))))))
set_option maxHeartbeats 4000000 in
theorem x5_look_ok {l : Launch} {g : Gh} {G : Wd} (hX1 : OKX1 g) (hX3 : OKX3 g) {j : Nat} (hj : j < 3) {a : Nat} {s : Rec} (hGt : G.2 a = some (0, s)) {b : Nat} {e : Rec} (hGh : G.2 b = some (2, e)) {x1 : Nat → Int64} {x1N x1o x1q : Nat} (x1E : (gE g 2 b e)[x1o]? = some (x1q, .inl (kap g 1, x1N, .inr (.inl x1)))) {x2 : Int32} {o : Option Int32} {s' : Rec} (hf : x5_look j s x1 x1N x2 = some (o, s')) : MXa l g yX5_look cX5_look 4 (some .int) 8 0 0 (a + 2) "ParlourLeaves$Fault" G [.ref (a + ro j), .ref x1q, .int x2] (o.map (fun v => some (.int v))) (wp G a 0 s') := by
  refine pv_startX (by decide) (Nat.le_of_ble_eq_true rfl) ?_
  intro X hl hg hN hc hr htb _ _ hQ
  subst hl; subst hg
  have hn : ([b, a] : List Nat).Nodup := nd2 (kd_ne hGh hGt (by decide))
  have hro := ((wz_c hGh wz_n) : ∀ u ∈ ([(b, 2, e)] : List (Nat × Nat × Rec)), G.2 u.1 = some u.2)
  refine pv_G (wz_id (us := [(b, 2, e), (a, 0, s)]) (wz_c hGh (wz_c hGt wz_n))) ?_
  have h := hf
  unfold x5_look at h
  show V X 0 0 _ [(0, .ref (a + ro j)), (1, .ref x1q), (2, .int x2)] [] 0
  refine pv_aload_n 0 hc dX5_look_0 rfl rfl ?_
  refine pv_aload_n 0 hc dX5_look_1 rfl rfl ?_
  obtain ⟨v2, hf1, h⟩ := BD_el h
  refine ca_X5_113 hj hc hX1 (wz_at hn rfl 1 rfl) (x5_isName_ok hX1 hj (wz_at hn rfl 1 rfl) hf1) (by decide) (Nat.le_of_ble_eq_true rfl) dX5_look_2 ?_
  refine pv_iconst (1 : Int32) hc dX5_look_5 rfl ?_
  rcases BX_el h with ⟨s4, hf3, h⟩ | ⟨u5, s4, hf3, h⟩
  · exact px_backT hc htb (cr_X5_109 hj hc hX1 (wz_at hn rfl 1 rfl) (x5_must_ok hX1 hj (wz_at hn rfl 1 rfl) hf3) (by decide) (Nat.le_of_ble_eq_true rfl) dX5_look_6) ⟨Nat.zero_le _, Nat.zero_le _⟩ hQ (by cases h; rfl) ((fin_z (ro := [(b, 2, e)]) (vs := [(a, 0, s4)]) hro (by cases h; rfl)).trans (wz_set (us := [(b, 2, e), (a, 0, s)]) (us' := [(b, 2, e), (a, 0, s4)]) hn rfl 1 rfl rfl).symm) (Nat.zero_le _) (Nat.zero_le _)
  refine px_backRv (cr_X5_109 hj hc hX1 (wz_at hn rfl 1 rfl) (x5_must_ok hX1 hj (wz_at hn rfl 1 rfl) hf3) (by decide) (Nat.le_of_ble_eq_true rfl) dX5_look_6) ⟨Nat.zero_le _, Nat.zero_le _⟩ ?_
  refine pv_G (wz_set (us := [(b, 2, e), (a, 0, s)]) (us' := [(b, 2, e), (a, 0, s4)]) hn rfl 1 rfl rfl).symm ?_
  refine pv_aload_n 0 hc dX5_look_9 rfl rfl ?_
  refine pv_aload_n 1 hc dX5_look_10 rfl rfl ?_
  refine pv_iload_n 2 hc dX5_look_11 rfl rfl ?_
  obtain ⟨v7, hf6, h⟩ := BD_el h
  refine ca_X5_117 hj hc hX1 (wz_at hn rfl 1 rfl) (x5_of_ok hX1 hX3 hj (wz_at hn rfl 1 rfl) (wz_at hn rfl 0 rfl) x1E hf6) (by decide) (Nat.le_of_ble_eq_true rfl) dX5_look_12 ?_
  refine pv_istore_n (L' := [(3, .int v7), (0, .ref (a + ro j)), (1, .ref x1q), (2, .int x2)]) hc dX5_look_15 rfl hN (by decide) rfl ?_
  refine pv_aload_n 1 hc dX5_look_16 rfl rfl ?_
  refine pv_iload_n 0 hc dX5_look_17 rfl rfl ?_
  refine pv_iconst (-1 : Int32) hc dX5_look_18 rfl ?_
  refine pv_icmp_eq (tgt := 26) hc dX5_look_19 (by decide) h (fun h => ?_) (fun h => ?_)
  · refine pv_iconst (0 : Int32) hc dX5_look_26 rfl ?_
    refine pv_iconst (3 : Int32) hc dX5_look_27 rfl ?_
    rcases BX_el h with ⟨s9, hf8, h⟩ | ⟨u10, s9, hf8, h⟩
    · exact px_backT hc htb (cr_X5_109 hj hc hX1 (wz_at hn rfl 1 rfl) (x5_must_ok hX1 hj (wz_at hn rfl 1 rfl) hf8) (by decide) (Nat.le_of_ble_eq_true rfl) dX5_look_28) ⟨Nat.zero_le _, Nat.zero_le _⟩ hQ (by cases h; rfl) ((fin_z (ro := [(b, 2, e)]) (vs := [(a, 0, s9)]) hro (by cases h; rfl)).trans (wz_set (us := [(b, 2, e), (a, 0, s4)]) (us' := [(b, 2, e), (a, 0, s9)]) hn rfl 1 rfl rfl).symm) (Nat.zero_le _) (Nat.zero_le _)
    refine px_backRv (cr_X5_109 hj hc hX1 (wz_at hn rfl 1 rfl) (x5_must_ok hX1 hj (wz_at hn rfl 1 rfl) hf8) (by decide) (Nat.le_of_ble_eq_true rfl) dX5_look_28) ⟨Nat.zero_le _, Nat.zero_le _⟩ ?_
    refine pv_G (wz_set (us := [(b, 2, e), (a, 0, s4)]) (us' := [(b, 2, e), (a, 0, s9)]) hn rfl 1 rfl rfl).symm ?_
    refine pv_iload_n 0 hc dX5_look_31 rfl rfl ?_
    exact px_iret hc hr hQ (by cases h; rfl) (fin_z (ro := [(b, 2, e)]) (vs := [(a, 0, s9)]) hro (by cases h; rfl)) dX5_look_32
  · refine pv_iconst (1 : Int32) hc dX5_look_22 rfl ?_
    refine pv_goto (tgt := 27) hc dX5_look_23 (by decide) ?_
    refine pv_iconst (3 : Int32) hc dX5_look_27 rfl ?_
    rcases BX_el h with ⟨s12, hf11, h⟩ | ⟨u13, s12, hf11, h⟩
    · exact px_backT hc htb (cr_X5_109 hj hc hX1 (wz_at hn rfl 1 rfl) (x5_must_ok hX1 hj (wz_at hn rfl 1 rfl) hf11) (by decide) (Nat.le_of_ble_eq_true rfl) dX5_look_28) ⟨Nat.zero_le _, Nat.zero_le _⟩ hQ (by cases h; rfl) ((fin_z (ro := [(b, 2, e)]) (vs := [(a, 0, s12)]) hro (by cases h; rfl)).trans (wz_set (us := [(b, 2, e), (a, 0, s4)]) (us' := [(b, 2, e), (a, 0, s12)]) hn rfl 1 rfl rfl).symm) (Nat.zero_le _) (Nat.zero_le _)
    refine px_backRv (cr_X5_109 hj hc hX1 (wz_at hn rfl 1 rfl) (x5_must_ok hX1 hj (wz_at hn rfl 1 rfl) hf11) (by decide) (Nat.le_of_ble_eq_true rfl) dX5_look_28) ⟨Nat.zero_le _, Nat.zero_le _⟩ ?_
    refine pv_G (wz_set (us := [(b, 2, e), (a, 0, s4)]) (us' := [(b, 2, e), (a, 0, s12)]) hn rfl 1 rfl rfl).symm ?_
    refine pv_iload_n 0 hc dX5_look_31 rfl rfl ?_
    exact px_iret hc hr hQ (by cases h; rfl) (fin_z (ro := [(b, 2, e)]) (vs := [(a, 0, s12)]) hro (by cases h; rfl)) dX5_look_32
def x5_known (j : Nat) (s : Rec) (x1 : Nat → Int64) (x1N : Nat) (x2 : Int32) : Option (Option Int32 × Rec) := BX (x5_look j s x1 x1N x2) (fun s2 => some (none, s2)) (fun v3 s2 => BD (x5_next j s2) (fun s5 => some (some v3, s5)))
set_option maxHeartbeats 4000000 in
theorem x5_known_ok {l : Launch} {g : Gh} {G : Wd} (hX1 : OKX1 g) (hX3 : OKX3 g) {j : Nat} (hj : j < 3) {a : Nat} {s : Rec} (hGt : G.2 a = some (0, s)) {b : Nat} {e : Rec} (hGh : G.2 b = some (2, e)) {x1 : Nat → Int64} {x1N x1o x1q : Nat} (x1E : (gE g 2 b e)[x1o]? = some (x1q, .inl (kap g 1, x1N, .inr (.inl x1)))) {x2 : Int32} {o : Option Int32} {s' : Rec} (hf : x5_known j s x1 x1N x2 = some (o, s')) : MXa l g yX5_known cX5_known 4 (some .int) 9 0 0 (a + 2) "ParlourLeaves$Fault" G [.ref (a + ro j), .ref x1q, .int x2] (o.map (fun v => some (.int v))) (wp G a 0 s') := by
  refine pv_startX (by decide) (Nat.le_of_ble_eq_true rfl) ?_
  intro X hl hg hN hc hr htb _ _ hQ
  subst hl; subst hg
  have hn : ([b, a] : List Nat).Nodup := nd2 (kd_ne hGh hGt (by decide))
  have hro := ((wz_c hGh wz_n) : ∀ u ∈ ([(b, 2, e)] : List (Nat × Nat × Rec)), G.2 u.1 = some u.2)
  refine pv_G (wz_id (us := [(b, 2, e), (a, 0, s)]) (wz_c hGh (wz_c hGt wz_n))) ?_
  have h := hf
  unfold x5_known at h
  show V X 0 0 _ [(0, .ref (a + ro j)), (1, .ref x1q), (2, .int x2)] [] 0
  refine pv_aload_n 0 hc dX5_known_0 rfl rfl ?_
  refine pv_aload_n 1 hc dX5_known_1 rfl rfl ?_
  refine pv_iload_n 2 hc dX5_known_2 rfl rfl ?_
  rcases BX_el h with ⟨s2, hf1, h⟩ | ⟨v3, s2, hf1, h⟩
  · exact px_backT hc htb (cr_X5_121 hj hc hX1 (wz_at hn rfl 1 rfl) (x5_look_ok hX1 hX3 hj (wz_at hn rfl 1 rfl) (wz_at hn rfl 0 rfl) x1E hf1) (by decide) (Nat.le_of_ble_eq_true rfl) dX5_known_3) ⟨Nat.zero_le _, Nat.zero_le _⟩ hQ (by cases h; rfl) ((fin_z (ro := [(b, 2, e)]) (vs := [(a, 0, s2)]) hro (by cases h; rfl)).trans (wz_set (us := [(b, 2, e), (a, 0, s)]) (us' := [(b, 2, e), (a, 0, s2)]) hn rfl 1 rfl rfl).symm) (Nat.zero_le _) (Nat.zero_le _)
  refine px_backRi (cr_X5_121 hj hc hX1 (wz_at hn rfl 1 rfl) (x5_look_ok hX1 hX3 hj (wz_at hn rfl 1 rfl) (wz_at hn rfl 0 rfl) x1E hf1) (by decide) (Nat.le_of_ble_eq_true rfl) dX5_known_3) ⟨Nat.zero_le _, Nat.zero_le _⟩ ?_
  refine pv_G (wz_set (us := [(b, 2, e), (a, 0, s)]) (us' := [(b, 2, e), (a, 0, s2)]) hn rfl 1 rfl rfl).symm ?_
  refine pv_istore_n (L' := [(3, .int v3), (0, .ref (a + ro j)), (1, .ref x1q), (2, .int x2)]) hc dX5_known_6 rfl hN (by decide) rfl ?_
  refine pv_aload_n 1 hc dX5_known_7 rfl rfl ?_
  obtain ⟨s5, hf4, h⟩ := BD_el h
  refine ca_X5_22 hj hc hX1 (wz_at hn rfl 1 rfl) (x5_next_ok hX1 hj (wz_at hn rfl 1 rfl) hf4) (by decide) (Nat.le_of_ble_eq_true rfl) dX5_known_8 ?_
  refine pv_G (wz_set (us := [(b, 2, e), (a, 0, s2)]) (us' := [(b, 2, e), (a, 0, s5)]) hn rfl 1 rfl rfl).symm ?_
  refine pv_iload_n 0 hc dX5_known_11 rfl rfl ?_
  exact px_iret hc hr hQ (by cases h; rfl) (fin_z (ro := [(b, 2, e)]) (vs := [(a, 0, s5)]) hro (by cases h; rfl)) dX5_known_12
def x6_isRoom (s : Rec) (b : Nat) (e : Rec) (x1 : Int32) : Option Int32 := (if x1 = (0 : Int32) then PG (gP s 108) b ((if (5 : Int32) ≤ (gI e 7) then some (0 : Int32) else some (1 : Int32))) else if x1 = (1 : Int32) then some (1 : Int32) else if x1 = (2 : Int32) then PG (gP s 108) b ((if (6 : Int32) ≤ (gI e 8) then some (0 : Int32) else some (1 : Int32))) else if x1 = (3 : Int32) then PG (gP s 108) b ((if (4 : Int32) ≤ (gI e 9) then some (0 : Int32) else some (1 : Int32))) else if x1 = (4 : Int32) then PG (gP s 108) b ((if (5 : Int32) ≤ (gI e 10) then some (0 : Int32) else some (1 : Int32))) else some (1 : Int32))
set_option maxHeartbeats 4000000 in
theorem x6_isRoom_ok {l : Launch} {g : Gh} {G : Wd} (hX1 : OKX1 g) (hX3 : OKX3 g) {a : Nat} {s : Rec} (hGt : G.2 a = some (0, s)) {b : Nat} {e : Rec} (hGh : G.2 b = some (2, e)) {x1 : Int32} {r : Int32} (hf : x6_isRoom s b e x1 = some r) : MT l g yX6_isRoom cX6_isRoom 2 (some .boolean) 1 G [.ref (a + 29), .int x1] (some (.int r)) G := by
  refine pv_start (by decide) (Nat.le_of_ble_eq_true rfl) ?_
  intro X hl hg hN hc hr _ _ _ hQ
  subst hl; subst hg
  have hn : ([b, a] : List Nat).Nodup := nd2 (kd_ne hGh hGt (by decide))
  have hro := ((wz_c hGh (wz_c hGt wz_n)) : ∀ u ∈ ([(b, 2, e), (a, 0, s)] : List (Nat × Nat × Rec)), G.2 u.1 = some u.2)
  refine pv_G (wz_id (us := [(b, 2, e), (a, 0, s)]) (wz_c hGh (wz_c hGt wz_n))) ?_
  have h := hf
  unfold x6_isRoom at h
  show V X 0 0 _ [(0, .ref (a + 29)), (1, .int x1)] [] 0
  refine pv_iload_n 1 hc dX6_isRoom_0 rfl rfl ?_
  refine pv_tsw (tgt := 36) (c := 0) (off := 35) hc dX6_isRoom_1 (by decide) (by decide) (by decide) (by decide) h (fun h => ?_) (fun hx2 h => ?_)
  · refine pv_aload_n 0 hc dX6_isRoom_36 rfl rfl ?_
    obtain ⟨hp1, h⟩ := PG_el h
    refine gp_X6_15 hc hX1 (wz_at hn rfl 1 rfl) hp1 dX6_isRoom_37 ?_
    refine gf_X6_60 hc hX3 (wz_at hn rfl 0 rfl) dX6_isRoom_40 ?_
    refine pv_iconst (5 : Int32) hc dX6_isRoom_43 rfl ?_
    refine pv_icmp_ge (tgt := 51) hc dX6_isRoom_44 (by decide) h (fun h => ?_) (fun h => ?_)
    · refine pv_iconst (0 : Int32) hc dX6_isRoom_51 rfl ?_
      exact pv_zret hc hr hQ (by decide) (by cases h; rfl) (wz_id hro).symm dX6_isRoom_52
    · refine pv_iconst (1 : Int32) hc dX6_isRoom_47 rfl ?_
      refine pv_goto (tgt := 52) hc dX6_isRoom_48 (by decide) ?_
      exact pv_zret hc hr hQ (by decide) (by cases h; rfl) (wz_id hro).symm dX6_isRoom_52
  refine pv_tsw (tgt := 105) (c := 1) (off := 104) hc dX6_isRoom_1 (by decide) (by decide) (by decide) (by decide) h (fun h => ?_) (fun hx3 h => ?_)
  · refine pv_iconst (1 : Int32) hc dX6_isRoom_105 rfl ?_
    exact pv_zret hc hr hQ (by decide) (by cases h; rfl) (wz_id hro).symm dX6_isRoom_106
  refine pv_tsw (tgt := 53) (c := 2) (off := 52) hc dX6_isRoom_1 (by decide) (by decide) (by decide) (by decide) h (fun h => ?_) (fun hx5 h => ?_)
  · refine pv_aload_n 0 hc dX6_isRoom_53 rfl rfl ?_
    obtain ⟨hp4, h⟩ := PG_el h
    refine gp_X6_15 hc hX1 (wz_at hn rfl 1 rfl) hp4 dX6_isRoom_54 ?_
    refine gf_X6_65 hc hX3 (wz_at hn rfl 0 rfl) dX6_isRoom_57 ?_
    refine pv_bipush (6 : Int32) hc dX6_isRoom_60 rfl ?_
    refine pv_icmp_ge (tgt := 69) hc dX6_isRoom_62 (by decide) h (fun h => ?_) (fun h => ?_)
    · refine pv_iconst (0 : Int32) hc dX6_isRoom_69 rfl ?_
      exact pv_zret hc hr hQ (by decide) (by cases h; rfl) (wz_id hro).symm dX6_isRoom_70
    · refine pv_iconst (1 : Int32) hc dX6_isRoom_65 rfl ?_
      refine pv_goto (tgt := 70) hc dX6_isRoom_66 (by decide) ?_
      exact pv_zret hc hr hQ (by decide) (by cases h; rfl) (wz_id hro).symm dX6_isRoom_70
  refine pv_tsw (tgt := 71) (c := 3) (off := 70) hc dX6_isRoom_1 (by decide) (by decide) (by decide) (by decide) h (fun h => ?_) (fun hx7 h => ?_)
  · refine pv_aload_n 0 hc dX6_isRoom_71 rfl rfl ?_
    obtain ⟨hp6, h⟩ := PG_el h
    refine gp_X6_15 hc hX1 (wz_at hn rfl 1 rfl) hp6 dX6_isRoom_72 ?_
    refine gf_X6_68 hc hX3 (wz_at hn rfl 0 rfl) dX6_isRoom_75 ?_
    refine pv_iconst (4 : Int32) hc dX6_isRoom_78 rfl ?_
    refine pv_icmp_ge (tgt := 86) hc dX6_isRoom_79 (by decide) h (fun h => ?_) (fun h => ?_)
    · refine pv_iconst (0 : Int32) hc dX6_isRoom_86 rfl ?_
      exact pv_zret hc hr hQ (by decide) (by cases h; rfl) (wz_id hro).symm dX6_isRoom_87
    · refine pv_iconst (1 : Int32) hc dX6_isRoom_82 rfl ?_
      refine pv_goto (tgt := 87) hc dX6_isRoom_83 (by decide) ?_
      exact pv_zret hc hr hQ (by decide) (by cases h; rfl) (wz_id hro).symm dX6_isRoom_87
  refine pv_tsw (tgt := 88) (c := 4) (off := 87) hc dX6_isRoom_1 (by decide) (by decide) (by decide) (by decide) h (fun h => ?_) (fun hx9 h => ?_)
  · refine pv_aload_n 0 hc dX6_isRoom_88 rfl rfl ?_
    obtain ⟨hp8, h⟩ := PG_el h
    refine gp_X6_15 hc hX1 (wz_at hn rfl 1 rfl) hp8 dX6_isRoom_89 ?_
    refine gf_X6_71 hc hX3 (wz_at hn rfl 0 rfl) dX6_isRoom_92 ?_
    refine pv_iconst (5 : Int32) hc dX6_isRoom_95 rfl ?_
    refine pv_icmp_ge (tgt := 103) hc dX6_isRoom_96 (by decide) h (fun h => ?_) (fun h => ?_)
    · refine pv_iconst (0 : Int32) hc dX6_isRoom_103 rfl ?_
      exact pv_zret hc hr hQ (by decide) (by cases h; rfl) (wz_id hro).symm dX6_isRoom_104
    · refine pv_iconst (1 : Int32) hc dX6_isRoom_99 rfl ?_
      refine pv_goto (tgt := 104) hc dX6_isRoom_100 (by decide) ?_
      exact pv_zret hc hr hQ (by decide) (by cases h; rfl) (wz_id hro).symm dX6_isRoom_104
  refine pv_tableOut (tgt := 105) hc dX6_isRoom_1 (tsw_out 0 [0, 1, 2, 3, 4] (ne_c hx2 (ne_c hx3 (ne_c hx5 (ne_c hx7 (ne_c hx9 ne_n))))) 4 (by decide)) (by decide) ?_
  refine pv_iconst (1 : Int32) hc dX6_isRoom_105 rfl ?_
  exact pv_zret hc hr hQ (by decide) (by cases h; rfl) (wz_id hro).symm dX6_isRoom_106
def x6_fresh (s : Rec) (b : Nat) (e : Rec) : Option (Option Int64 × Rec) := BD (x5_isName 0 s) (fun v2 => BX (x5_must 0 s v2 (1 : Int32)) (fun s4 => some (none, s4)) (fun u5 s4 => PG (gP s4 108) b (PG (gP s4 108) b (BD (x5_of 0 s4 (gL e 0) 5 (gI e 7)) (fun v9 => JN1 (fun (v10 : Int32) => BX (x5_must 0 s4 v10 (3 : Int32)) (fun s13 => some (none, s13)) (fun u14 s13 => BD (x5_next 0 s13) (fun s16 => some (some (gJ s13 106), s16)))) (fun (j11 : Int32 → Option (Option Int64 × Rec)) => (if v9 = (-1 : Int32) then PG (gP s4 108) b (PG (gP s4 108) b (BD (x5_of 0 s4 (gL e 1) 6 (gI e 8)) (fun v20 => (if v20 = (-1 : Int32) then PG (gP s4 108) b (PG (gP s4 108) b (BD (x5_of 0 s4 (gL e 2) 4 (gI e 9)) (fun v24 => (if v24 = (-1 : Int32) then PG (gP s4 108) b (PG (gP s4 108) b (BD (x5_of 0 s4 (gL e 3) 5 (gI e 10)) (fun v28 => (if v28 = (-1 : Int32) then j11 (1 : Int32) else j11 (0 : Int32))))) else j11 (0 : Int32))))) else j11 (0 : Int32))))) else j11 (0 : Int32))))))))
set_option maxHeartbeats 4000000 in
theorem x6_fresh_ok {l : Launch} {g : Gh} {G : Wd} (hX1 : OKX1 g) (hX3 : OKX3 g) {a : Nat} {s : Rec} (hGt : G.2 a = some (0, s)) {b : Nat} {e : Rec} (hGh : G.2 b = some (2, e)) {o : Option Int64} {s' : Rec} (hf : x6_fresh s b e = some (o, s')) : MXa l g yX6_fresh cX6_fresh 3 (some .long) 8 0 0 (a + 2) "ParlourLeaves$Fault" G [.ref (a + 29)] (o.map (fun v => some (.long v))) (wp G a 0 s') := by
  refine pv_startX (by decide) (Nat.le_of_ble_eq_true rfl) ?_
  intro X hl hg hN hc hr htb _ _ hQ
  subst hl; subst hg
  have hn : ([b, a] : List Nat).Nodup := nd2 (kd_ne hGh hGt (by decide))
  have hro := ((wz_c hGh wz_n) : ∀ u ∈ ([(b, 2, e)] : List (Nat × Nat × Rec)), G.2 u.1 = some u.2)
  refine pv_G (wz_id (us := [(b, 2, e), (a, 0, s)]) (wz_c hGh (wz_c hGt wz_n))) ?_
  have h := hf
  unfold x6_fresh at h
  show V X 0 0 _ [(0, .ref (a + 29))] [] 0
  refine pv_aload_n 0 hc dX6_fresh_0 rfl rfl ?_
  refine pv_aload_n 0 hc dX6_fresh_1 rfl rfl ?_
  obtain ⟨v2, hf1, h⟩ := BD_el h
  refine ca_X6_74 hc hX1 (wz_at hn rfl 1 rfl) (x5_isName_ok hX1 (j := 0) (by decide) (wz_at hn rfl 1 rfl) hf1) (by decide) (Nat.le_of_ble_eq_true rfl) dX6_fresh_2 ?_
  refine pv_iconst (1 : Int32) hc dX6_fresh_5 rfl ?_
  rcases BX_el h with ⟨s4, hf3, h⟩ | ⟨u5, s4, hf3, h⟩
  · exact px_backT hc htb (cr_X6_38 hc hX1 (wz_at hn rfl 1 rfl) (x5_must_ok hX1 (j := 0) (by decide) (wz_at hn rfl 1 rfl) hf3) (by decide) (Nat.le_of_ble_eq_true rfl) dX6_fresh_6) ⟨Nat.zero_le _, Nat.zero_le _⟩ hQ (by cases h; rfl) ((fin_z (ro := [(b, 2, e)]) (vs := [(a, 0, s4)]) hro (by cases h; rfl)).trans (wz_set (us := [(b, 2, e), (a, 0, s)]) (us' := [(b, 2, e), (a, 0, s4)]) hn rfl 1 rfl rfl).symm) (Nat.zero_le _) (Nat.zero_le _)
  refine px_backRv (cr_X6_38 hc hX1 (wz_at hn rfl 1 rfl) (x5_must_ok hX1 (j := 0) (by decide) (wz_at hn rfl 1 rfl) hf3) (by decide) (Nat.le_of_ble_eq_true rfl) dX6_fresh_6) ⟨Nat.zero_le _, Nat.zero_le _⟩ ?_
  refine pv_G (wz_set (us := [(b, 2, e), (a, 0, s)]) (us' := [(b, 2, e), (a, 0, s4)]) hn rfl 1 rfl rfl).symm ?_
  refine pv_aload_n 0 hc dX6_fresh_9 rfl rfl ?_
  refine pv_aload_n 0 hc dX6_fresh_10 rfl rfl ?_
  refine pv_aload_n 0 hc dX6_fresh_11 rfl rfl ?_
  obtain ⟨hp6, h⟩ := PG_el h
  refine gp_X6_15 hc hX1 (wz_at hn rfl 1 rfl) hp6 dX6_fresh_12 ?_
  refine gf_X6_78 hc hX3 (wz_at hn rfl 0 rfl) dX6_fresh_15 ?_
  refine pv_aload_n 0 hc dX6_fresh_18 rfl rfl ?_
  obtain ⟨hp7, h⟩ := PG_el h
  refine gp_X6_15 hc hX1 (wz_at hn rfl 1 rfl) hp7 dX6_fresh_19 ?_
  refine gf_X6_60 hc hX3 (wz_at hn rfl 0 rfl) dX6_fresh_22 ?_
  obtain ⟨v9, hf8, h⟩ := BD_el h
  refine ca_X6_82 hc hX1 (wz_at hn rfl 1 rfl) (x5_of_ok hX1 hX3 (j := 0) (by decide) (wz_at hn rfl 1 rfl) (wz_at hn rfl 0 rfl) (c_X3_0 hX3) hf8) (by decide) (Nat.le_of_ble_eq_true rfl) dX6_fresh_25 ?_
  refine pv_iconst (-1 : Int32) hc dX6_fresh_28 rfl ?_
  obtain ⟨j11, hj11, h⟩ := JN1_el (P := fun v10 => V X 0 0 (wz G [(b, 2, e), (a, 0, s4)]) [(0, .ref (a + 29))] [.int v10, .ref (a + 29)] 103) h (by
      intro v10 h
      refine pv_iconst (3 : Int32) hc dX6_fresh_103 rfl ?_
      rcases BX_el h with ⟨s13, hf12, h⟩ | ⟨u14, s13, hf12, h⟩
      · exact px_backT hc htb (cr_X6_38 hc hX1 (wz_at hn rfl 1 rfl) (x5_must_ok hX1 (j := 0) (by decide) (wz_at hn rfl 1 rfl) hf12) (by decide) (Nat.le_of_ble_eq_true rfl) dX6_fresh_104) ⟨Nat.zero_le _, Nat.zero_le _⟩ hQ (by cases h; rfl) ((fin_z (ro := [(b, 2, e)]) (vs := [(a, 0, s13)]) hro (by cases h; rfl)).trans (wz_set (us := [(b, 2, e), (a, 0, s4)]) (us' := [(b, 2, e), (a, 0, s13)]) hn rfl 1 rfl rfl).symm) (Nat.zero_le _) (Nat.zero_le _)
      refine px_backRv (cr_X6_38 hc hX1 (wz_at hn rfl 1 rfl) (x5_must_ok hX1 (j := 0) (by decide) (wz_at hn rfl 1 rfl) hf12) (by decide) (Nat.le_of_ble_eq_true rfl) dX6_fresh_104) ⟨Nat.zero_le _, Nat.zero_le _⟩ ?_
      refine pv_G (wz_set (us := [(b, 2, e), (a, 0, s4)]) (us' := [(b, 2, e), (a, 0, s13)]) hn rfl 1 rfl rfl).symm ?_
      refine pv_aload_n 0 hc dX6_fresh_107 rfl rfl ?_
      refine gf_X6_95 hc hX1 (wz_at hn rfl 1 rfl) dX6_fresh_108 ?_
      refine pv_lstore_n (L' := [(1, .long (gJ s13 106)), (0, .ref (a + 29))]) hc dX6_fresh_111 rfl hN (by decide) rfl ?_
      refine pv_aload_n 1 hc dX6_fresh_112 rfl rfl ?_
      obtain ⟨s16, hf15, h⟩ := BD_el h
      refine ca_X6_50 hc hX1 (wz_at hn rfl 1 rfl) (x5_next_ok hX1 (j := 0) (by decide) (wz_at hn rfl 1 rfl) hf15) (by decide) (Nat.le_of_ble_eq_true rfl) dX6_fresh_113 ?_
      refine pv_G (wz_set (us := [(b, 2, e), (a, 0, s13)]) (us' := [(b, 2, e), (a, 0, s16)]) hn rfl 1 rfl rfl).symm ?_
      refine pv_lload_n 0 hc dX6_fresh_116 rfl rfl ?_
      exact px_lret hc hr hQ (by cases h; rfl) (fin_z (ro := [(b, 2, e)]) (vs := [(a, 0, s16)]) hro (by cases h; rfl)) dX6_fresh_117)
  refine pv_icmp_ne (tgt := 102) hc dX6_fresh_29 (by decide) h (fun h => ?_) (fun h => ?_)
  · refine pv_iconst (0 : Int32) hc dX6_fresh_102 rfl ?_
    exact hj11 _ h
  · refine pv_aload_n 0 hc dX6_fresh_32 rfl rfl ?_
    refine pv_aload_n 0 hc dX6_fresh_33 rfl rfl ?_
    obtain ⟨hp17, h⟩ := PG_el h
    refine gp_X6_15 hc hX1 (wz_at hn rfl 1 rfl) hp17 dX6_fresh_34 ?_
    refine gf_X6_86 hc hX3 (wz_at hn rfl 0 rfl) dX6_fresh_37 ?_
    refine pv_aload_n 0 hc dX6_fresh_40 rfl rfl ?_
    obtain ⟨hp18, h⟩ := PG_el h
    refine gp_X6_15 hc hX1 (wz_at hn rfl 1 rfl) hp18 dX6_fresh_41 ?_
    refine gf_X6_65 hc hX3 (wz_at hn rfl 0 rfl) dX6_fresh_44 ?_
    obtain ⟨v20, hf19, h⟩ := BD_el h
    refine ca_X6_82 hc hX1 (wz_at hn rfl 1 rfl) (x5_of_ok hX1 hX3 (j := 0) (by decide) (wz_at hn rfl 1 rfl) (wz_at hn rfl 0 rfl) (c_X3_1 hX3) hf19) (by decide) (Nat.le_of_ble_eq_true rfl) dX6_fresh_47 ?_
    refine pv_iconst (-1 : Int32) hc dX6_fresh_50 rfl ?_
    refine pv_icmp_ne (tgt := 102) hc dX6_fresh_51 (by decide) h (fun h => ?_) (fun h => ?_)
    · refine pv_iconst (0 : Int32) hc dX6_fresh_102 rfl ?_
      exact hj11 _ h
    · refine pv_aload_n 0 hc dX6_fresh_54 rfl rfl ?_
      refine pv_aload_n 0 hc dX6_fresh_55 rfl rfl ?_
      obtain ⟨hp21, h⟩ := PG_el h
      refine gp_X6_15 hc hX1 (wz_at hn rfl 1 rfl) hp21 dX6_fresh_56 ?_
      refine gf_X6_89 hc hX3 (wz_at hn rfl 0 rfl) dX6_fresh_59 ?_
      refine pv_aload_n 0 hc dX6_fresh_62 rfl rfl ?_
      obtain ⟨hp22, h⟩ := PG_el h
      refine gp_X6_15 hc hX1 (wz_at hn rfl 1 rfl) hp22 dX6_fresh_63 ?_
      refine gf_X6_68 hc hX3 (wz_at hn rfl 0 rfl) dX6_fresh_66 ?_
      obtain ⟨v24, hf23, h⟩ := BD_el h
      refine ca_X6_82 hc hX1 (wz_at hn rfl 1 rfl) (x5_of_ok hX1 hX3 (j := 0) (by decide) (wz_at hn rfl 1 rfl) (wz_at hn rfl 0 rfl) (c_X3_2 hX3) hf23) (by decide) (Nat.le_of_ble_eq_true rfl) dX6_fresh_69 ?_
      refine pv_iconst (-1 : Int32) hc dX6_fresh_72 rfl ?_
      refine pv_icmp_ne (tgt := 102) hc dX6_fresh_73 (by decide) h (fun h => ?_) (fun h => ?_)
      · refine pv_iconst (0 : Int32) hc dX6_fresh_102 rfl ?_
        exact hj11 _ h
      · refine pv_aload_n 0 hc dX6_fresh_76 rfl rfl ?_
        refine pv_aload_n 0 hc dX6_fresh_77 rfl rfl ?_
        obtain ⟨hp25, h⟩ := PG_el h
        refine gp_X6_15 hc hX1 (wz_at hn rfl 1 rfl) hp25 dX6_fresh_78 ?_
        refine gf_X6_92 hc hX3 (wz_at hn rfl 0 rfl) dX6_fresh_81 ?_
        refine pv_aload_n 0 hc dX6_fresh_84 rfl rfl ?_
        obtain ⟨hp26, h⟩ := PG_el h
        refine gp_X6_15 hc hX1 (wz_at hn rfl 1 rfl) hp26 dX6_fresh_85 ?_
        refine gf_X6_71 hc hX3 (wz_at hn rfl 0 rfl) dX6_fresh_88 ?_
        obtain ⟨v28, hf27, h⟩ := BD_el h
        refine ca_X6_82 hc hX1 (wz_at hn rfl 1 rfl) (x5_of_ok hX1 hX3 (j := 0) (by decide) (wz_at hn rfl 1 rfl) (wz_at hn rfl 0 rfl) (c_X3_3 hX3) hf27) (by decide) (Nat.le_of_ble_eq_true rfl) dX6_fresh_91 ?_
        refine pv_iconst (-1 : Int32) hc dX6_fresh_94 rfl ?_
        refine pv_icmp_ne (tgt := 102) hc dX6_fresh_95 (by decide) h (fun h => ?_) (fun h => ?_)
        · refine pv_iconst (0 : Int32) hc dX6_fresh_102 rfl ?_
          exact hj11 _ h
        · refine pv_iconst (1 : Int32) hc dX6_fresh_98 rfl ?_
          refine pv_goto (tgt := 103) hc dX6_fresh_99 (by decide) ?_
          exact hj11 _ h
def x6_line (s : Rec) (b : Nat) (e : Rec) (x1 : Int32) : Option (Option Unit × Rec × Rec) := (if x1 = (0 : Int32) then PG (gP s 108) b (PG (gP s 108) b (BX (x6_fresh s b e) (fun s4 => some (none, e, s4)) (fun v5 s4 => IX (gI e 7) 5 (fun i6 => LT (sL e 0 i6 v5) (fun s7 => PG (gP s4 108) b (LT (sI s7 7 ((gI s7 7) + (1 : Int32))) (fun s9 => some (some (), s9, s4)))))))) else if x1 = (1 : Int32) then PG (gP s 108) b (PG (gP s 108) b (BX (x5_known 0 s (gL e 0) 5 (gI e 7)) (fun s14 => some (none, e, s14)) (fun v15 s14 => PG (gP s14 108) b (PG (gP s14 108) b (BX (x5_look 0 s14 (gL e 0) 5 (gI e 7)) (fun s19 => some (none, e, s19)) (fun v20 s19 => JN1 (fun (v21 : Int32) => BX (x5_must 0 s19 v21 (3 : Int32)) (fun s24 => some (none, e, s24)) (fun u25 s24 => BD (x5_next 0 s24) (fun s27 => PG (gP s27 108) b (IX v15 5 (fun i29 => LT (sA e 4 i29 ((gA e 4 i29) ||| ((1 : Int32) <<< (v20 &&& 31)))) (fun s30 => PG (gP s27 108) b (IX v20 5 (fun i32 => LT (sA s30 4 i32 ((gA s30 4 i32) ||| ((1 : Int32) <<< (v15 &&& 31)))) (fun s33 => some (some (), s33, s27)))))))))) (fun (j22 : Int32 → Option (Option Unit × Rec × Rec)) => (if v15 = v20 then j22 (0 : Int32) else PG (gP s19 108) b (IX v15 5 (fun i35 => BD (x1_has (gA e 4 i35) v20) (fun v37 => (if v37 = 0 then j22 (1 : Int32) else j22 (0 : Int32))))))))))))) else if x1 = (2 : Int32) then PG (gP s 108) b (PG (gP s 108) b (BX (x6_fresh s b e) (fun s42 => some (none, e, s42)) (fun v43 s42 => IX (gI e 8) 6 (fun i44 => LT (sL e 1 i44 v43) (fun s45 => PG (gP s42 108) b (PG (gP s42 108) b (PG (gP s42 108) b (BX (x5_known 0 s42 (gL s45 0) 5 (gI s45 7)) (fun s50 => some (none, s45, s50)) (fun v51 s50 => LT (sA s45 5 i44 v51) (fun s52 => PG (gP s50 108) b (BX (x5_number 0 s50 (1 : Int32) (9 : Int32)) (fun s55 => some (none, s52, s55)) (fun v56 s55 => LT (sA s52 6 i44 v56) (fun s57 => BD (x5_is 0 s55 25) (fun v59 => JN2 (fun (s60 : Rec) (s61 : Rec) => PG (gP s61 108) b (LT (sI s60 8 ((gI s60 8) + (1 : Int32))) (fun s64 => some (some (), s64, s61)))) (fun (j62 : Rec → Rec → Option (Option Unit × Rec × Rec)) => (if v59 = 0 then j62 s57 s55 else BD (x5_next 0 s55) (fun s66 => PG (gP s66 108) b (LT (sI s57 11 ((gI s57 11) ||| ((1 : Int32) <<< ((gI e 8) &&& 31)))) (fun s68 => j62 s68 s66))))))))))))))))))) else if x1 = (3 : Int32) then PG (gP s 108) b (PG (gP s 108) b (BX (x6_fresh s b e) (fun s73 => some (none, e, s73)) (fun v74 s73 => IX (gI e 9) 4 (fun i75 => LT (sL e 2 i75 v74) (fun s76 => PG (gP s73 108) b (LT (sI s76 9 ((gI s76 9) + (1 : Int32))) (fun s78 => some (some (), s78, s73)))))))) else if x1 = (4 : Int32) then PG (gP s 108) b (PG (gP s 108) b (BX (x6_fresh s b e) (fun s83 => some (none, e, s83)) (fun v84 s83 => IX (gI e 10) 5 (fun i85 => LT (sL e 3 i85 v84) (fun s86 => PG (gP s83 108) b (LT (sI s86 10 ((gI s86 10) + (1 : Int32))) (fun s88 => some (some (), s88, s83)))))))) else if x1 = (5 : Int32) then PG (gP s 108) b (BX (x5_number 0 s (1 : Int32) (60 : Int32)) (fun s92 => some (none, e, s92)) (fun v93 s92 => LT (sI e 12 v93) (fun s94 => some (some (), s94, s92)))) else PG (gP s 108) b (BX (x5_number 0 s (1 : Int32) (6 : Int32)) (fun s98 => some (none, e, s98)) (fun v99 s98 => LT (sI e 13 v99) (fun s100 => some (some (), s100, s98)))))
set_option maxHeartbeats 4000000 in
theorem x6_line_ok {l : Launch} {g : Gh} {G : Wd} (hX1 : OKX1 g) (hX3 : OKX3 g) {a : Nat} {s : Rec} (hGt : G.2 a = some (0, s)) {b : Nat} {e : Rec} (hGh : G.2 b = some (2, e)) {x1 : Int32} {o : Option Unit} {e' s' : Rec} (hf : x6_line s b e x1 = some (o, e', s')) : MXa l g yX6_line cX6_line 4 none 10 0 0 (a + 2) "ParlourLeaves$Fault" G [.ref (a + 29), .int x1] (o.map (fun _ => none)) (wp (wp G b 2 e') a 0 s') := by
  refine pv_startX (by decide) (Nat.le_of_ble_eq_true rfl) ?_
  intro X hl hg hN hc hr htb _ _ hQ
  subst hl; subst hg
  have hn : ([b, a] : List Nat).Nodup := nd2 (kd_ne hGh hGt (by decide))
  have hro := (wz_n : ∀ u ∈ ([] : List (Nat × Nat × Rec)), G.2 u.1 = some u.2)
  refine pv_G (wz_id (us := [(b, 2, e), (a, 0, s)]) (wz_c hGh (wz_c hGt wz_n))) ?_
  have h := hf
  unfold x6_line at h
  show V X 0 0 _ [(0, .ref (a + 29)), (1, .int x1)] [] 0
  refine pv_iload_n 1 hc dX6_line_0 rfl rfl ?_
  refine pv_tsw (tgt := 40) (c := 0) (off := 39) hc dX6_line_1 (by decide) (by decide) (by decide) (by decide) h (fun h => ?_) (fun hx10 h => ?_)
  · refine pv_aload_n 0 hc dX6_line_40 rfl rfl ?_
    obtain ⟨hp1, h⟩ := PG_el h
    refine gp_X6_15 hc hX1 (wz_at hn rfl 1 rfl) hp1 dX6_line_41 ?_
    refine gf_X6_78 hc hX3 (wz_at hn rfl 0 rfl) dX6_line_44 ?_
    refine pv_aload_n 0 hc dX6_line_47 rfl rfl ?_
    obtain ⟨hp2, h⟩ := PG_el h
    refine gp_X6_15 hc hX1 (wz_at hn rfl 1 rfl) hp2 dX6_line_48 ?_
    refine gf_X6_60 hc hX3 (wz_at hn rfl 0 rfl) dX6_line_51 ?_
    refine pv_aload_n 0 hc dX6_line_54 rfl rfl ?_
    rcases BX_el h with ⟨s4, hf3, h⟩ | ⟨v5, s4, hf3, h⟩
    · exact px_backT hc htb (cr_X6_99 hc hX1 (wz_at hn rfl 1 rfl) (x6_fresh_ok hX1 hX3 (wz_at hn rfl 1 rfl) (wz_at hn rfl 0 rfl) hf3) (by decide) (Nat.le_of_ble_eq_true rfl) dX6_line_55) ⟨Nat.zero_le _, Nat.zero_le _⟩ hQ (by cases h; rfl) ((fin_z (ro := []) (vs := [(b, 2, e), (a, 0, s4)]) hro (by cases h; rfl)).trans (wz_set (us := [(b, 2, e), (a, 0, s)]) (us' := [(b, 2, e), (a, 0, s4)]) hn rfl 1 rfl rfl).symm) (Nat.zero_le _) (Nat.zero_le _)
    refine px_backRl (cr_X6_99 hc hX1 (wz_at hn rfl 1 rfl) (x6_fresh_ok hX1 hX3 (wz_at hn rfl 1 rfl) (wz_at hn rfl 0 rfl) hf3) (by decide) (Nat.le_of_ble_eq_true rfl) dX6_line_55) ⟨Nat.zero_le _, Nat.zero_le _⟩ ?_
    refine pv_G (wz_set (us := [(b, 2, e), (a, 0, s)]) (us' := [(b, 2, e), (a, 0, s4)]) hn rfl 1 rfl rfl).symm ?_
    obtain ⟨i6, hi6, h⟩ := IX_el h
    obtain ⟨s7, hs7, h⟩ := LT_el h
    refine as_X3_0 (G1 := (wz G [(b, 2, s7), (a, 0, s4)])) hc hX3 (wz_at hn rfl 0 rfl) hi6 hs7 (wz_set hn rfl 0 rfl rfl) dX6_line_58 ?_
    refine pv_aload_n 0 hc dX6_line_59 rfl rfl ?_
    obtain ⟨hp8, h⟩ := PG_el h
    refine gp_X6_15 hc hX1 (wz_at hn rfl 1 rfl) hp8 dX6_line_60 ?_
    refine pv_dup hc dX6_line_63 rfl ?_
    refine gf_X6_60 hc hX3 (wz_at hn rfl 0 rfl) dX6_line_64 ?_
    refine pv_iconst (1 : Int32) hc dX6_line_67 rfl ?_
    refine pv_iadd hc dX6_line_68 ?_
    obtain ⟨s9, hs9, h⟩ := LT_el h
    refine pf_X6_60 (G1 := (wz G [(b, 2, s9), (a, 0, s4)])) hc hX3 (wz_at hn rfl 0 rfl) hs9 (wz_set hn rfl 0 rfl rfl) dX6_line_69 ?_
    refine pv_goto (tgt := 390) hc dX6_line_72 (by decide) ?_
    exact px_vret hc hr hQ (by cases h; rfl) (fin_z (ro := []) (vs := [(b, 2, s9), (a, 0, s4)]) hro (by cases h; rfl)) dX6_line_390
  refine pv_tsw (tgt := 75) (c := 1) (off := 74) hc dX6_line_1 (by decide) (by decide) (by decide) (by decide) h (fun h => ?_) (fun hx38 h => ?_)
  · refine pv_aload_n 0 hc dX6_line_75 rfl rfl ?_
    refine pv_aload_n 0 hc dX6_line_76 rfl rfl ?_
    obtain ⟨hp11, h⟩ := PG_el h
    refine gp_X6_15 hc hX1 (wz_at hn rfl 1 rfl) hp11 dX6_line_77 ?_
    refine gf_X6_78 hc hX3 (wz_at hn rfl 0 rfl) dX6_line_80 ?_
    refine pv_aload_n 0 hc dX6_line_83 rfl rfl ?_
    obtain ⟨hp12, h⟩ := PG_el h
    refine gp_X6_15 hc hX1 (wz_at hn rfl 1 rfl) hp12 dX6_line_84 ?_
    refine gf_X6_60 hc hX3 (wz_at hn rfl 0 rfl) dX6_line_87 ?_
    rcases BX_el h with ⟨s14, hf13, h⟩ | ⟨v15, s14, hf13, h⟩
    · exact px_backT hc htb (cr_X6_103 hc hX1 (wz_at hn rfl 1 rfl) (x5_known_ok hX1 hX3 (j := 0) (by decide) (wz_at hn rfl 1 rfl) (wz_at hn rfl 0 rfl) (c_X3_0 hX3) hf13) (by decide) (Nat.le_of_ble_eq_true rfl) dX6_line_90) ⟨Nat.zero_le _, Nat.zero_le _⟩ hQ (by cases h; rfl) ((fin_z (ro := []) (vs := [(b, 2, e), (a, 0, s14)]) hro (by cases h; rfl)).trans (wz_set (us := [(b, 2, e), (a, 0, s)]) (us' := [(b, 2, e), (a, 0, s14)]) hn rfl 1 rfl rfl).symm) (Nat.zero_le _) (Nat.zero_le _)
    refine px_backRi (cr_X6_103 hc hX1 (wz_at hn rfl 1 rfl) (x5_known_ok hX1 hX3 (j := 0) (by decide) (wz_at hn rfl 1 rfl) (wz_at hn rfl 0 rfl) (c_X3_0 hX3) hf13) (by decide) (Nat.le_of_ble_eq_true rfl) dX6_line_90) ⟨Nat.zero_le _, Nat.zero_le _⟩ ?_
    refine pv_G (wz_set (us := [(b, 2, e), (a, 0, s)]) (us' := [(b, 2, e), (a, 0, s14)]) hn rfl 1 rfl rfl).symm ?_
    refine pv_istore_n (L' := [(2, .int v15), (0, .ref (a + 29)), (1, .int x1)]) hc dX6_line_93 rfl hN (by decide) rfl ?_
    refine pv_aload_n 1 hc dX6_line_94 rfl rfl ?_
    refine pv_aload_n 1 hc dX6_line_95 rfl rfl ?_
    obtain ⟨hp16, h⟩ := PG_el h
    refine gp_X6_15 hc hX1 (wz_at hn rfl 1 rfl) hp16 dX6_line_96 ?_
    refine gf_X6_78 hc hX3 (wz_at hn rfl 0 rfl) dX6_line_99 ?_
    refine pv_aload_n 1 hc dX6_line_102 rfl rfl ?_
    obtain ⟨hp17, h⟩ := PG_el h
    refine gp_X6_15 hc hX1 (wz_at hn rfl 1 rfl) hp17 dX6_line_103 ?_
    refine gf_X6_60 hc hX3 (wz_at hn rfl 0 rfl) dX6_line_106 ?_
    rcases BX_el h with ⟨s19, hf18, h⟩ | ⟨v20, s19, hf18, h⟩
    · exact px_backT hc htb (cr_X6_106 hc hX1 (wz_at hn rfl 1 rfl) (x5_look_ok hX1 hX3 (j := 0) (by decide) (wz_at hn rfl 1 rfl) (wz_at hn rfl 0 rfl) (c_X3_0 hX3) hf18) (by decide) (Nat.le_of_ble_eq_true rfl) dX6_line_109) ⟨Nat.zero_le _, Nat.zero_le _⟩ hQ (by cases h; rfl) ((fin_z (ro := []) (vs := [(b, 2, e), (a, 0, s19)]) hro (by cases h; rfl)).trans (wz_set (us := [(b, 2, e), (a, 0, s14)]) (us' := [(b, 2, e), (a, 0, s19)]) hn rfl 1 rfl rfl).symm) (Nat.zero_le _) (Nat.zero_le _)
    refine px_backRi (cr_X6_106 hc hX1 (wz_at hn rfl 1 rfl) (x5_look_ok hX1 hX3 (j := 0) (by decide) (wz_at hn rfl 1 rfl) (wz_at hn rfl 0 rfl) (c_X3_0 hX3) hf18) (by decide) (Nat.le_of_ble_eq_true rfl) dX6_line_109) ⟨Nat.zero_le _, Nat.zero_le _⟩ ?_
    refine pv_G (wz_set (us := [(b, 2, e), (a, 0, s14)]) (us' := [(b, 2, e), (a, 0, s19)]) hn rfl 1 rfl rfl).symm ?_
    refine pv_istore_n (L' := [(3, .int v20), (2, .int v15), (0, .ref (a + 29)), (1, .int x1)]) hc dX6_line_112 rfl hN (by decide) rfl ?_
    refine pv_aload_n 2 hc dX6_line_113 rfl rfl ?_
    refine pv_iload_n 1 hc dX6_line_114 rfl rfl ?_
    refine pv_iload_n 0 hc dX6_line_115 rfl rfl ?_
    obtain ⟨j22, hj22, h⟩ := JN1_el (P := fun v21 => V X 0 0 (wz G [(b, 2, e), (a, 0, s19)]) [(0, .ref (a + 29)), (2, .int v15), (3, .int v20)] [.int v21, .ref (a + 29)] 140) h (by
        intro v21 h
        refine pv_iconst (3 : Int32) hc dX6_line_140 rfl ?_
        rcases BX_el h with ⟨s24, hf23, h⟩ | ⟨u25, s24, hf23, h⟩
        · exact px_backT hc htb (cr_X6_38 hc hX1 (wz_at hn rfl 1 rfl) (x5_must_ok hX1 (j := 0) (by decide) (wz_at hn rfl 1 rfl) hf23) (by decide) (Nat.le_of_ble_eq_true rfl) dX6_line_141) ⟨Nat.zero_le _, Nat.zero_le _⟩ hQ (by cases h; rfl) ((fin_z (ro := []) (vs := [(b, 2, e), (a, 0, s24)]) hro (by cases h; rfl)).trans (wz_set (us := [(b, 2, e), (a, 0, s19)]) (us' := [(b, 2, e), (a, 0, s24)]) hn rfl 1 rfl rfl).symm) (Nat.zero_le _) (Nat.zero_le _)
        refine px_backRv (cr_X6_38 hc hX1 (wz_at hn rfl 1 rfl) (x5_must_ok hX1 (j := 0) (by decide) (wz_at hn rfl 1 rfl) hf23) (by decide) (Nat.le_of_ble_eq_true rfl) dX6_line_141) ⟨Nat.zero_le _, Nat.zero_le _⟩ ?_
        refine pv_G (wz_set (us := [(b, 2, e), (a, 0, s19)]) (us' := [(b, 2, e), (a, 0, s24)]) hn rfl 1 rfl rfl).symm ?_
        refine pv_aload_n 0 hc dX6_line_144 rfl rfl ?_
        obtain ⟨s27, hf26, h⟩ := BD_el h
        refine ca_X6_50 hc hX1 (wz_at hn rfl 1 rfl) (x5_next_ok hX1 (j := 0) (by decide) (wz_at hn rfl 1 rfl) hf26) (by decide) (Nat.le_of_ble_eq_true rfl) dX6_line_145 ?_
        refine pv_G (wz_set (us := [(b, 2, e), (a, 0, s24)]) (us' := [(b, 2, e), (a, 0, s27)]) hn rfl 1 rfl rfl).symm ?_
        refine pv_aload_n 0 hc dX6_line_148 rfl rfl ?_
        obtain ⟨hp28, h⟩ := PG_el h
        refine gp_X6_15 hc hX1 (wz_at hn rfl 1 rfl) hp28 dX6_line_149 ?_
        refine gf_X6_109 hc hX3 (wz_at hn rfl 0 rfl) dX6_line_152 ?_
        refine pv_iload_n 1 hc dX6_line_155 rfl rfl ?_
        refine pv_dup2_11 hc dX6_line_156 rfl rfl ?_
        obtain ⟨i29, hi29, h⟩ := IX_el h
        refine al_X3_4 hc hX3 (wz_at hn rfl 0 rfl) hi29 dX6_line_157 ?_
        refine pv_iconst (1 : Int32) hc dX6_line_158 rfl ?_
        refine pv_iload_n 2 hc dX6_line_159 rfl rfl ?_
        refine pv_ishl hc dX6_line_160 ?_
        refine pv_ior hc dX6_line_161 ?_
        obtain ⟨s30, hs30, h⟩ := LT_el h
        refine as_X3_4 (G1 := (wz G [(b, 2, s30), (a, 0, s27)])) hc hX3 (wz_at hn rfl 0 rfl) hi29 hs30 (wz_set hn rfl 0 rfl rfl) dX6_line_162 ?_
        refine pv_aload_n 0 hc dX6_line_163 rfl rfl ?_
        obtain ⟨hp31, h⟩ := PG_el h
        refine gp_X6_15 hc hX1 (wz_at hn rfl 1 rfl) hp31 dX6_line_164 ?_
        refine gf_X6_109 hc hX3 (wz_at hn rfl 0 rfl) dX6_line_167 ?_
        refine pv_iload_n 2 hc dX6_line_170 rfl rfl ?_
        refine pv_dup2_11 hc dX6_line_171 rfl rfl ?_
        obtain ⟨i32, hi32, h⟩ := IX_el h
        refine al_X3_4 hc hX3 (wz_at hn rfl 0 rfl) hi32 dX6_line_172 ?_
        refine pv_iconst (1 : Int32) hc dX6_line_173 rfl ?_
        refine pv_iload_n 1 hc dX6_line_174 rfl rfl ?_
        refine pv_ishl hc dX6_line_175 ?_
        refine pv_ior hc dX6_line_176 ?_
        obtain ⟨s33, hs33, h⟩ := LT_el h
        refine as_X3_4 (G1 := (wz G [(b, 2, s33), (a, 0, s27)])) hc hX3 (wz_at hn rfl 0 rfl) hi32 hs33 (wz_set hn rfl 0 rfl rfl) dX6_line_177 ?_
        refine pv_goto (tgt := 390) hc dX6_line_178 (by decide) ?_
        exact px_vret hc hr hQ (by cases h; rfl) (fin_z (ro := []) (vs := [(b, 2, s33), (a, 0, s27)]) hro (by cases h; rfl)) dX6_line_390)
    refine pv_icmp_eq (tgt := 139) hc dX6_line_116 (by decide) h (fun h => ?_) (fun h => ?_)
    · refine pv_iconst (0 : Int32) hc dX6_line_139 rfl ?_
      refine pv_sub [2, 1, 0] rfl ?_
      exact hj22 _ h
    · refine pv_aload_n 2 hc dX6_line_119 rfl rfl ?_
      obtain ⟨hp34, h⟩ := PG_el h
      refine gp_X6_15 hc hX1 (wz_at hn rfl 1 rfl) hp34 dX6_line_120 ?_
      refine gf_X6_109 hc hX3 (wz_at hn rfl 0 rfl) dX6_line_123 ?_
      refine pv_iload_n 1 hc dX6_line_126 rfl rfl ?_
      obtain ⟨i35, hi35, h⟩ := IX_el h
      refine al_X3_4 hc hX3 (wz_at hn rfl 0 rfl) hi35 dX6_line_127 ?_
      refine pv_iload_n 0 hc dX6_line_128 rfl rfl ?_
      obtain ⟨v37, hf36, h⟩ := BD_el h
      refine ca_X6_42 hc (x1_has_ok   hf36) (by decide) (Nat.le_of_ble_eq_true rfl) dX6_line_129 ?_
      refine pv_if_ne (tgt := 139) hc dX6_line_132 (by decide) h (fun h => ?_) (fun h => ?_)
      · refine pv_iconst (0 : Int32) hc dX6_line_139 rfl ?_
        refine pv_sub [2, 1, 0] rfl ?_
        exact hj22 _ h
      · refine pv_iconst (1 : Int32) hc dX6_line_135 rfl ?_
        refine pv_goto (tgt := 140) hc dX6_line_136 (by decide) ?_
        refine pv_sub [2, 1, 0] rfl ?_
        exact hj22 _ h
  refine pv_tsw (tgt := 181) (c := 2) (off := 180) hc dX6_line_1 (by decide) (by decide) (by decide) (by decide) h (fun h => ?_) (fun hx69 h => ?_)
  · refine pv_aload_n 0 hc dX6_line_181 rfl rfl ?_
    obtain ⟨hp39, h⟩ := PG_el h
    refine gp_X6_15 hc hX1 (wz_at hn rfl 1 rfl) hp39 dX6_line_182 ?_
    refine gf_X6_65 hc hX3 (wz_at hn rfl 0 rfl) dX6_line_185 ?_
    refine pv_istore_n (L' := [(2, .int (gI e 8)), (0, .ref (a + 29)), (1, .int x1)]) hc dX6_line_188 rfl hN (by decide) rfl ?_
    refine pv_aload_n 1 hc dX6_line_189 rfl rfl ?_
    obtain ⟨hp40, h⟩ := PG_el h
    refine gp_X6_15 hc hX1 (wz_at hn rfl 1 rfl) hp40 dX6_line_190 ?_
    refine gf_X6_86 hc hX3 (wz_at hn rfl 0 rfl) dX6_line_193 ?_
    refine pv_iload_n 0 hc dX6_line_196 rfl rfl ?_
    refine pv_aload_n 1 hc dX6_line_197 rfl rfl ?_
    rcases BX_el h with ⟨s42, hf41, h⟩ | ⟨v43, s42, hf41, h⟩
    · exact px_backT hc htb (cr_X6_99 hc hX1 (wz_at hn rfl 1 rfl) (x6_fresh_ok hX1 hX3 (wz_at hn rfl 1 rfl) (wz_at hn rfl 0 rfl) hf41) (by decide) (Nat.le_of_ble_eq_true rfl) dX6_line_198) ⟨Nat.zero_le _, Nat.zero_le _⟩ hQ (by cases h; rfl) ((fin_z (ro := []) (vs := [(b, 2, e), (a, 0, s42)]) hro (by cases h; rfl)).trans (wz_set (us := [(b, 2, e), (a, 0, s)]) (us' := [(b, 2, e), (a, 0, s42)]) hn rfl 1 rfl rfl).symm) (Nat.zero_le _) (Nat.zero_le _)
    refine px_backRl (cr_X6_99 hc hX1 (wz_at hn rfl 1 rfl) (x6_fresh_ok hX1 hX3 (wz_at hn rfl 1 rfl) (wz_at hn rfl 0 rfl) hf41) (by decide) (Nat.le_of_ble_eq_true rfl) dX6_line_198) ⟨Nat.zero_le _, Nat.zero_le _⟩ ?_
    refine pv_G (wz_set (us := [(b, 2, e), (a, 0, s)]) (us' := [(b, 2, e), (a, 0, s42)]) hn rfl 1 rfl rfl).symm ?_
    obtain ⟨i44, hi44, h⟩ := IX_el h
    obtain ⟨s45, hs45, h⟩ := LT_el h
    refine as_X3_1 (G1 := (wz G [(b, 2, s45), (a, 0, s42)])) hc hX3 (wz_at hn rfl 0 rfl) hi44 hs45 (wz_set hn rfl 0 rfl rfl) dX6_line_201 ?_
    refine pv_aload_n 1 hc dX6_line_202 rfl rfl ?_
    obtain ⟨hp46, h⟩ := PG_el h
    refine gp_X6_15 hc hX1 (wz_at hn rfl 1 rfl) hp46 dX6_line_203 ?_
    refine gf_X6_113 hc hX3 (wz_at hn rfl 0 rfl) dX6_line_206 ?_
    refine pv_iload_n 0 hc dX6_line_209 rfl rfl ?_
    refine pv_aload_n 1 hc dX6_line_210 rfl rfl ?_
    refine pv_aload_n 1 hc dX6_line_211 rfl rfl ?_
    obtain ⟨hp47, h⟩ := PG_el h
    refine gp_X6_15 hc hX1 (wz_at hn rfl 1 rfl) hp47 dX6_line_212 ?_
    refine gf_X6_78 hc hX3 (wz_at hn rfl 0 rfl) dX6_line_215 ?_
    refine pv_aload_n 1 hc dX6_line_218 rfl rfl ?_
    obtain ⟨hp48, h⟩ := PG_el h
    refine gp_X6_15 hc hX1 (wz_at hn rfl 1 rfl) hp48 dX6_line_219 ?_
    refine gf_X6_60 hc hX3 (wz_at hn rfl 0 rfl) dX6_line_222 ?_
    rcases BX_el h with ⟨s50, hf49, h⟩ | ⟨v51, s50, hf49, h⟩
    · exact px_backT hc htb (cr_X6_103 hc hX1 (wz_at hn rfl 1 rfl) (x5_known_ok hX1 hX3 (j := 0) (by decide) (wz_at hn rfl 1 rfl) (wz_at hn rfl 0 rfl) (c_X3_0 hX3) hf49) (by decide) (Nat.le_of_ble_eq_true rfl) dX6_line_225) ⟨Nat.zero_le _, Nat.zero_le _⟩ hQ (by cases h; rfl) ((fin_z (ro := []) (vs := [(b, 2, s45), (a, 0, s50)]) hro (by cases h; rfl)).trans (wz_set (us := [(b, 2, s45), (a, 0, s42)]) (us' := [(b, 2, s45), (a, 0, s50)]) hn rfl 1 rfl rfl).symm) (Nat.zero_le _) (Nat.zero_le _)
    refine px_backRi (cr_X6_103 hc hX1 (wz_at hn rfl 1 rfl) (x5_known_ok hX1 hX3 (j := 0) (by decide) (wz_at hn rfl 1 rfl) (wz_at hn rfl 0 rfl) (c_X3_0 hX3) hf49) (by decide) (Nat.le_of_ble_eq_true rfl) dX6_line_225) ⟨Nat.zero_le _, Nat.zero_le _⟩ ?_
    refine pv_G (wz_set (us := [(b, 2, s45), (a, 0, s42)]) (us' := [(b, 2, s45), (a, 0, s50)]) hn rfl 1 rfl rfl).symm ?_
    obtain ⟨s52, hs52, h⟩ := LT_el h
    refine as_X3_5 (G1 := (wz G [(b, 2, s52), (a, 0, s50)])) hc hX3 (wz_at hn rfl 0 rfl) hi44 hs52 (wz_set hn rfl 0 rfl rfl) dX6_line_228 ?_
    refine pv_aload_n 1 hc dX6_line_229 rfl rfl ?_
    obtain ⟨hp53, h⟩ := PG_el h
    refine gp_X6_15 hc hX1 (wz_at hn rfl 1 rfl) hp53 dX6_line_230 ?_
    refine gf_X6_116 hc hX3 (wz_at hn rfl 0 rfl) dX6_line_233 ?_
    refine pv_iload_n 0 hc dX6_line_236 rfl rfl ?_
    refine pv_aload_n 1 hc dX6_line_237 rfl rfl ?_
    refine pv_iconst (1 : Int32) hc dX6_line_238 rfl ?_
    refine pv_bipush (9 : Int32) hc dX6_line_239 rfl ?_
    rcases BX_el h with ⟨s55, hf54, h⟩ | ⟨v56, s55, hf54, h⟩
    · exact px_backT hc htb (cr_X6_119 hc hX1 (wz_at hn rfl 1 rfl) (x5_number_ok hX1 (j := 0) (by decide) (wz_at hn rfl 1 rfl) hf54) (by decide) (Nat.le_of_ble_eq_true rfl) dX6_line_241) ⟨Nat.zero_le _, Nat.zero_le _⟩ hQ (by cases h; rfl) ((fin_z (ro := []) (vs := [(b, 2, s52), (a, 0, s55)]) hro (by cases h; rfl)).trans (wz_set (us := [(b, 2, s52), (a, 0, s50)]) (us' := [(b, 2, s52), (a, 0, s55)]) hn rfl 1 rfl rfl).symm) (Nat.zero_le _) (Nat.zero_le _)
    refine px_backRi (cr_X6_119 hc hX1 (wz_at hn rfl 1 rfl) (x5_number_ok hX1 (j := 0) (by decide) (wz_at hn rfl 1 rfl) hf54) (by decide) (Nat.le_of_ble_eq_true rfl) dX6_line_241) ⟨Nat.zero_le _, Nat.zero_le _⟩ ?_
    refine pv_G (wz_set (us := [(b, 2, s52), (a, 0, s50)]) (us' := [(b, 2, s52), (a, 0, s55)]) hn rfl 1 rfl rfl).symm ?_
    obtain ⟨s57, hs57, h⟩ := LT_el h
    refine as_X3_6 (G1 := (wz G [(b, 2, s57), (a, 0, s55)])) hc hX3 (wz_at hn rfl 0 rfl) hi44 hs57 (wz_set hn rfl 0 rfl rfl) dX6_line_244 ?_
    refine pv_aload_n 1 hc dX6_line_245 rfl rfl ?_
    refine pv_str hc ((xstr hX1 _ hc.2.2.2.2.2.1.2.2.1).2.1.2.2.2.2.2.2.2.2.2.2.2.2.2.2.2.2.2.2.2.2.2.2.2.2.2.1) dX6_line_246 ?_
    obtain ⟨v59, hf58, h⟩ := BD_el h
    refine ca_X6_125 hc hX1 (wz_at hn rfl 1 rfl) (x5_is_ok hX1 (j := 0) (by decide) (wz_at hn rfl 1 rfl) (by decide) hf58) (by decide) (Nat.le_of_ble_eq_true rfl) dX6_line_248 ?_
    obtain ⟨j62, hj62, h⟩ := JN2_el (P := fun s60 s61 => V X 0 0 (wz G [(b, 2, s60), (a, 0, s61)]) [(0, .ref (a + 29))] [] 273) h (by
        intro s60 s61 h
        refine pv_aload_n 0 hc dX6_line_273 rfl rfl ?_
        obtain ⟨hp63, h⟩ := PG_el h
        refine gp_X6_15 hc hX1 (wz_at hn rfl 1 rfl) hp63 dX6_line_274 ?_
        refine pv_dup hc dX6_line_277 rfl ?_
        refine gf_X6_65 hc hX3 (wz_at hn rfl 0 rfl) dX6_line_278 ?_
        refine pv_iconst (1 : Int32) hc dX6_line_281 rfl ?_
        refine pv_iadd hc dX6_line_282 ?_
        obtain ⟨s64, hs64, h⟩ := LT_el h
        refine pf_X6_65 (G1 := (wz G [(b, 2, s64), (a, 0, s61)])) hc hX3 (wz_at hn rfl 0 rfl) hs64 (wz_set hn rfl 0 rfl rfl) dX6_line_283 ?_
        refine pv_goto (tgt := 390) hc dX6_line_286 (by decide) ?_
        exact px_vret hc hr hQ (by cases h; rfl) (fin_z (ro := []) (vs := [(b, 2, s64), (a, 0, s61)]) hro (by cases h; rfl)) dX6_line_390)
    refine pv_if_eq (tgt := 273) hc dX6_line_251 (by decide) h (fun h => ?_) (fun h => ?_)
    · refine pv_sub [1] rfl ?_
      exact hj62 _ _ h
    · refine pv_aload_n 1 hc dX6_line_254 rfl rfl ?_
      obtain ⟨s66, hf65, h⟩ := BD_el h
      refine ca_X6_50 hc hX1 (wz_at hn rfl 1 rfl) (x5_next_ok hX1 (j := 0) (by decide) (wz_at hn rfl 1 rfl) hf65) (by decide) (Nat.le_of_ble_eq_true rfl) dX6_line_255 ?_
      refine pv_G (wz_set (us := [(b, 2, s57), (a, 0, s55)]) (us' := [(b, 2, s57), (a, 0, s66)]) hn rfl 1 rfl rfl).symm ?_
      refine pv_aload_n 1 hc dX6_line_258 rfl rfl ?_
      obtain ⟨hp67, h⟩ := PG_el h
      refine gp_X6_15 hc hX1 (wz_at hn rfl 1 rfl) hp67 dX6_line_259 ?_
      refine pv_dup hc dX6_line_262 rfl ?_
      refine gf_X6_129 hc hX3 (wz_at hn rfl 0 rfl) dX6_line_263 ?_
      refine pv_iconst (1 : Int32) hc dX6_line_266 rfl ?_
      refine pv_iload_n 0 hc dX6_line_267 rfl rfl ?_
      refine pv_ishl hc dX6_line_268 ?_
      refine pv_ior hc dX6_line_269 ?_
      obtain ⟨s68, hs68, h⟩ := LT_el h
      refine pf_X6_129 (G1 := (wz G [(b, 2, s68), (a, 0, s66)])) hc hX3 (wz_at hn rfl 0 rfl) hs68 (wz_set hn rfl 0 rfl rfl) dX6_line_270 ?_
      refine pv_sub [1] rfl ?_
      exact hj62 _ _ h
  refine pv_tsw (tgt := 289) (c := 3) (off := 288) hc dX6_line_1 (by decide) (by decide) (by decide) (by decide) h (fun h => ?_) (fun hx79 h => ?_)
  · refine pv_aload_n 0 hc dX6_line_289 rfl rfl ?_
    obtain ⟨hp70, h⟩ := PG_el h
    refine gp_X6_15 hc hX1 (wz_at hn rfl 1 rfl) hp70 dX6_line_290 ?_
    refine gf_X6_89 hc hX3 (wz_at hn rfl 0 rfl) dX6_line_293 ?_
    refine pv_aload_n 0 hc dX6_line_296 rfl rfl ?_
    obtain ⟨hp71, h⟩ := PG_el h
    refine gp_X6_15 hc hX1 (wz_at hn rfl 1 rfl) hp71 dX6_line_297 ?_
    refine gf_X6_68 hc hX3 (wz_at hn rfl 0 rfl) dX6_line_300 ?_
    refine pv_aload_n 0 hc dX6_line_303 rfl rfl ?_
    rcases BX_el h with ⟨s73, hf72, h⟩ | ⟨v74, s73, hf72, h⟩
    · exact px_backT hc htb (cr_X6_99 hc hX1 (wz_at hn rfl 1 rfl) (x6_fresh_ok hX1 hX3 (wz_at hn rfl 1 rfl) (wz_at hn rfl 0 rfl) hf72) (by decide) (Nat.le_of_ble_eq_true rfl) dX6_line_304) ⟨Nat.zero_le _, Nat.zero_le _⟩ hQ (by cases h; rfl) ((fin_z (ro := []) (vs := [(b, 2, e), (a, 0, s73)]) hro (by cases h; rfl)).trans (wz_set (us := [(b, 2, e), (a, 0, s)]) (us' := [(b, 2, e), (a, 0, s73)]) hn rfl 1 rfl rfl).symm) (Nat.zero_le _) (Nat.zero_le _)
    refine px_backRl (cr_X6_99 hc hX1 (wz_at hn rfl 1 rfl) (x6_fresh_ok hX1 hX3 (wz_at hn rfl 1 rfl) (wz_at hn rfl 0 rfl) hf72) (by decide) (Nat.le_of_ble_eq_true rfl) dX6_line_304) ⟨Nat.zero_le _, Nat.zero_le _⟩ ?_
    refine pv_G (wz_set (us := [(b, 2, e), (a, 0, s)]) (us' := [(b, 2, e), (a, 0, s73)]) hn rfl 1 rfl rfl).symm ?_
    obtain ⟨i75, hi75, h⟩ := IX_el h
    obtain ⟨s76, hs76, h⟩ := LT_el h
    refine as_X3_2 (G1 := (wz G [(b, 2, s76), (a, 0, s73)])) hc hX3 (wz_at hn rfl 0 rfl) hi75 hs76 (wz_set hn rfl 0 rfl rfl) dX6_line_307 ?_
    refine pv_aload_n 0 hc dX6_line_308 rfl rfl ?_
    obtain ⟨hp77, h⟩ := PG_el h
    refine gp_X6_15 hc hX1 (wz_at hn rfl 1 rfl) hp77 dX6_line_309 ?_
    refine pv_dup hc dX6_line_312 rfl ?_
    refine gf_X6_68 hc hX3 (wz_at hn rfl 0 rfl) dX6_line_313 ?_
    refine pv_iconst (1 : Int32) hc dX6_line_316 rfl ?_
    refine pv_iadd hc dX6_line_317 ?_
    obtain ⟨s78, hs78, h⟩ := LT_el h
    refine pf_X6_68 (G1 := (wz G [(b, 2, s78), (a, 0, s73)])) hc hX3 (wz_at hn rfl 0 rfl) hs78 (wz_set hn rfl 0 rfl rfl) dX6_line_318 ?_
    refine pv_goto (tgt := 390) hc dX6_line_321 (by decide) ?_
    exact px_vret hc hr hQ (by cases h; rfl) (fin_z (ro := []) (vs := [(b, 2, s78), (a, 0, s73)]) hro (by cases h; rfl)) dX6_line_390
  refine pv_tsw (tgt := 324) (c := 4) (off := 323) hc dX6_line_1 (by decide) (by decide) (by decide) (by decide) h (fun h => ?_) (fun hx89 h => ?_)
  · refine pv_aload_n 0 hc dX6_line_324 rfl rfl ?_
    obtain ⟨hp80, h⟩ := PG_el h
    refine gp_X6_15 hc hX1 (wz_at hn rfl 1 rfl) hp80 dX6_line_325 ?_
    refine gf_X6_92 hc hX3 (wz_at hn rfl 0 rfl) dX6_line_328 ?_
    refine pv_aload_n 0 hc dX6_line_331 rfl rfl ?_
    obtain ⟨hp81, h⟩ := PG_el h
    refine gp_X6_15 hc hX1 (wz_at hn rfl 1 rfl) hp81 dX6_line_332 ?_
    refine gf_X6_71 hc hX3 (wz_at hn rfl 0 rfl) dX6_line_335 ?_
    refine pv_aload_n 0 hc dX6_line_338 rfl rfl ?_
    rcases BX_el h with ⟨s83, hf82, h⟩ | ⟨v84, s83, hf82, h⟩
    · exact px_backT hc htb (cr_X6_99 hc hX1 (wz_at hn rfl 1 rfl) (x6_fresh_ok hX1 hX3 (wz_at hn rfl 1 rfl) (wz_at hn rfl 0 rfl) hf82) (by decide) (Nat.le_of_ble_eq_true rfl) dX6_line_339) ⟨Nat.zero_le _, Nat.zero_le _⟩ hQ (by cases h; rfl) ((fin_z (ro := []) (vs := [(b, 2, e), (a, 0, s83)]) hro (by cases h; rfl)).trans (wz_set (us := [(b, 2, e), (a, 0, s)]) (us' := [(b, 2, e), (a, 0, s83)]) hn rfl 1 rfl rfl).symm) (Nat.zero_le _) (Nat.zero_le _)
    refine px_backRl (cr_X6_99 hc hX1 (wz_at hn rfl 1 rfl) (x6_fresh_ok hX1 hX3 (wz_at hn rfl 1 rfl) (wz_at hn rfl 0 rfl) hf82) (by decide) (Nat.le_of_ble_eq_true rfl) dX6_line_339) ⟨Nat.zero_le _, Nat.zero_le _⟩ ?_
    refine pv_G (wz_set (us := [(b, 2, e), (a, 0, s)]) (us' := [(b, 2, e), (a, 0, s83)]) hn rfl 1 rfl rfl).symm ?_
    obtain ⟨i85, hi85, h⟩ := IX_el h
    obtain ⟨s86, hs86, h⟩ := LT_el h
    refine as_X3_3 (G1 := (wz G [(b, 2, s86), (a, 0, s83)])) hc hX3 (wz_at hn rfl 0 rfl) hi85 hs86 (wz_set hn rfl 0 rfl rfl) dX6_line_342 ?_
    refine pv_aload_n 0 hc dX6_line_343 rfl rfl ?_
    obtain ⟨hp87, h⟩ := PG_el h
    refine gp_X6_15 hc hX1 (wz_at hn rfl 1 rfl) hp87 dX6_line_344 ?_
    refine pv_dup hc dX6_line_347 rfl ?_
    refine gf_X6_71 hc hX3 (wz_at hn rfl 0 rfl) dX6_line_348 ?_
    refine pv_iconst (1 : Int32) hc dX6_line_351 rfl ?_
    refine pv_iadd hc dX6_line_352 ?_
    obtain ⟨s88, hs88, h⟩ := LT_el h
    refine pf_X6_71 (G1 := (wz G [(b, 2, s88), (a, 0, s83)])) hc hX3 (wz_at hn rfl 0 rfl) hs88 (wz_set hn rfl 0 rfl rfl) dX6_line_353 ?_
    refine pv_goto (tgt := 390) hc dX6_line_356 (by decide) ?_
    exact px_vret hc hr hQ (by cases h; rfl) (fin_z (ro := []) (vs := [(b, 2, s88), (a, 0, s83)]) hro (by cases h; rfl)) dX6_line_390
  refine pv_tsw (tgt := 359) (c := 5) (off := 358) hc dX6_line_1 (by decide) (by decide) (by decide) (by decide) h (fun h => ?_) (fun hx95 h => ?_)
  · refine pv_aload_n 0 hc dX6_line_359 rfl rfl ?_
    obtain ⟨hp90, h⟩ := PG_el h
    refine gp_X6_15 hc hX1 (wz_at hn rfl 1 rfl) hp90 dX6_line_360 ?_
    refine pv_aload_n 0 hc dX6_line_363 rfl rfl ?_
    refine pv_iconst (1 : Int32) hc dX6_line_364 rfl ?_
    refine pv_bipush (60 : Int32) hc dX6_line_365 rfl ?_
    rcases BX_el h with ⟨s92, hf91, h⟩ | ⟨v93, s92, hf91, h⟩
    · exact px_backT hc htb (cr_X6_119 hc hX1 (wz_at hn rfl 1 rfl) (x5_number_ok hX1 (j := 0) (by decide) (wz_at hn rfl 1 rfl) hf91) (by decide) (Nat.le_of_ble_eq_true rfl) dX6_line_367) ⟨Nat.zero_le _, Nat.zero_le _⟩ hQ (by cases h; rfl) ((fin_z (ro := []) (vs := [(b, 2, e), (a, 0, s92)]) hro (by cases h; rfl)).trans (wz_set (us := [(b, 2, e), (a, 0, s)]) (us' := [(b, 2, e), (a, 0, s92)]) hn rfl 1 rfl rfl).symm) (Nat.zero_le _) (Nat.zero_le _)
    refine px_backRi (cr_X6_119 hc hX1 (wz_at hn rfl 1 rfl) (x5_number_ok hX1 (j := 0) (by decide) (wz_at hn rfl 1 rfl) hf91) (by decide) (Nat.le_of_ble_eq_true rfl) dX6_line_367) ⟨Nat.zero_le _, Nat.zero_le _⟩ ?_
    refine pv_G (wz_set (us := [(b, 2, e), (a, 0, s)]) (us' := [(b, 2, e), (a, 0, s92)]) hn rfl 1 rfl rfl).symm ?_
    obtain ⟨s94, hs94, h⟩ := LT_el h
    refine pf_X6_132 (G1 := (wz G [(b, 2, s94), (a, 0, s92)])) hc hX3 (wz_at hn rfl 0 rfl) hs94 (wz_set hn rfl 0 rfl rfl) dX6_line_370 ?_
    refine pv_goto (tgt := 390) hc dX6_line_373 (by decide) ?_
    exact px_vret hc hr hQ (by cases h; rfl) (fin_z (ro := []) (vs := [(b, 2, s94), (a, 0, s92)]) hro (by cases h; rfl)) dX6_line_390
  refine pv_tableOut (tgt := 376) hc dX6_line_1 (tsw_out 0 [0, 1, 2, 3, 4, 5] (ne_c hx10 (ne_c hx38 (ne_c hx69 (ne_c hx79 (ne_c hx89 (ne_c hx95 ne_n)))))) 5 (by decide)) (by decide) ?_
  refine pv_aload_n 0 hc dX6_line_376 rfl rfl ?_
  obtain ⟨hp96, h⟩ := PG_el h
  refine gp_X6_15 hc hX1 (wz_at hn rfl 1 rfl) hp96 dX6_line_377 ?_
  refine pv_aload_n 0 hc dX6_line_380 rfl rfl ?_
  refine pv_iconst (1 : Int32) hc dX6_line_381 rfl ?_
  refine pv_bipush (6 : Int32) hc dX6_line_382 rfl ?_
  rcases BX_el h with ⟨s98, hf97, h⟩ | ⟨v99, s98, hf97, h⟩
  · exact px_backT hc htb (cr_X6_119 hc hX1 (wz_at hn rfl 1 rfl) (x5_number_ok hX1 (j := 0) (by decide) (wz_at hn rfl 1 rfl) hf97) (by decide) (Nat.le_of_ble_eq_true rfl) dX6_line_384) ⟨Nat.zero_le _, Nat.zero_le _⟩ hQ (by cases h; rfl) ((fin_z (ro := []) (vs := [(b, 2, e), (a, 0, s98)]) hro (by cases h; rfl)).trans (wz_set (us := [(b, 2, e), (a, 0, s)]) (us' := [(b, 2, e), (a, 0, s98)]) hn rfl 1 rfl rfl).symm) (Nat.zero_le _) (Nat.zero_le _)
  refine px_backRi (cr_X6_119 hc hX1 (wz_at hn rfl 1 rfl) (x5_number_ok hX1 (j := 0) (by decide) (wz_at hn rfl 1 rfl) hf97) (by decide) (Nat.le_of_ble_eq_true rfl) dX6_line_384) ⟨Nat.zero_le _, Nat.zero_le _⟩ ?_
  refine pv_G (wz_set (us := [(b, 2, e), (a, 0, s)]) (us' := [(b, 2, e), (a, 0, s98)]) hn rfl 1 rfl rfl).symm ?_
  obtain ⟨s100, hs100, h⟩ := LT_el h
  refine pf_X6_135 (G1 := (wz G [(b, 2, s100), (a, 0, s98)])) hc hX3 (wz_at hn rfl 0 rfl) hs100 (wz_set hn rfl 0 rfl rfl) dX6_line_387 ?_
  exact px_vret hc hr hQ (by cases h; rfl) (fin_z (ro := []) (vs := [(b, 2, s100), (a, 0, s98)]) hro (by cases h; rfl)) dX6_line_390
def x6_read (s : Rec) (b : Nat) (e : Rec) : Option (Option Int32 × Rec × Rec) := LT (sP s 108 (some b)) (fun s1 => LT (sI s1 109 (0 : Int32)) (fun s2 => BD (x5_begin 0 s2) (fun s4 => LP3 (fun (rec8 : Int32 → Rec → Rec → Option (Option Int32 × Rec × Rec)) (v5 : Int32) (s6 : Rec) (s7 : Rec) => (if (gI s7 103) = 0 then some (some v5, s6, s7) else BD (x5_find 0 s7 (fun i => i + 0) 7) (fun v10 => JN1 (fun (v11 : Int32) => BX (x5_must 0 s7 v11 (1 : Int32)) (fun s14 => some (none, s6, s14)) (fun u15 s14 => JN1 (fun (v16 : Int32) => BX (x5_must 0 s14 v16 (3 : Int32)) (fun s19 => some (none, s6, s19)) (fun u20 s19 => BD (x6_isRoom s19 b s6 v10) (fun v22 => BX (x5_must 0 s19 v22 (4 : Int32)) (fun s24 => some (none, s6, s24)) (fun u25 s24 => LT (sI s24 109 ((gI s24 109) ||| ((1 : Int32) <<< (v10 &&& 31)))) (fun s26 => BD (x5_next 0 s26) (fun s28 => BX2 (x6_line s28 b s6 v10) (fun s30 s31 => some (none, s30, s31)) (fun u32 s30 s31 => BX (x5_sign 0 s31 (59 : Int32)) (fun s34 => some (none, s30, s34)) (fun u35 s34 => rec8 (v5 + (1 : Int32)) s30 s34)))))))) (fun (j17 : Int32 → Option (Option Int32 × Rec × Rec)) => (if v10 < (5 : Int32) then j17 (1 : Int32) else BD (x1_has (gI s14 109) v10) (fun v37 => (if v37 = 0 then j17 (1 : Int32) else j17 (0 : Int32))))))) (fun (j12 : Int32 → Option (Option Int32 × Rec × Rec)) => (if v10 = (-1 : Int32) then j12 (0 : Int32) else j12 (1 : Int32)))))) FU (0 : Int32) e s4)))
set_option maxHeartbeats 4000000 in
theorem x6_read_ok {l : Launch} {g : Gh} {G : Wd} (hX1 : OKX1 g) (hX3 : OKX3 g) {a : Nat} {s : Rec} (hGt : G.2 a = some (0, s)) {b : Nat} {e : Rec} (hGh : G.2 b = some (2, e)) {o : Option Int32} {e' s' : Rec} (hf : x6_read s b e = some (o, e', s')) : MXa l g yX6_read cX6_read 4 (some .int) 11 0 0 (a + 2) "ParlourLeaves$Fault" G [.ref (a + 29), .ref b] (o.map (fun v => some (.int v))) (wp (wp G b 2 e') a 0 s') := by
  refine pv_startX (by decide) (Nat.le_of_ble_eq_true rfl) ?_
  intro X hl hg hN hc hr htb _ _ hQ
  subst hl; subst hg
  have hn : ([b, a] : List Nat).Nodup := nd2 (kd_ne hGh hGt (by decide))
  have hro := (wz_n : ∀ u ∈ ([] : List (Nat × Nat × Rec)), G.2 u.1 = some u.2)
  refine pv_G (wz_id (us := [(b, 2, e), (a, 0, s)]) (wz_c hGh (wz_c hGt wz_n))) ?_
  have h := hf
  unfold x6_read at h
  show V X 0 0 _ [(0, .ref (a + 29)), (1, .ref b)] [] 0
  refine pv_aload_n 0 hc dX6_read_0 rfl rfl ?_
  refine pv_aload_n 1 hc dX6_read_1 rfl rfl ?_
  obtain ⟨s1, hs1, h⟩ := LT_el h
  refine pf_X6_15 (x := some b) (G1 := (wz G [(b, 2, e), (a, 0, s1)])) hc hX1 (wz_at hn rfl 1 rfl) hs1 (wz_set hn rfl 1 rfl rfl) dX6_read_2 ?_
  refine pv_aload_n 0 hc dX6_read_5 rfl rfl ?_
  refine pv_iconst (0 : Int32) hc dX6_read_6 rfl ?_
  obtain ⟨s2, hs2, h⟩ := LT_el h
  refine pf_X6_19 (G1 := (wz G [(b, 2, e), (a, 0, s2)])) hc hX1 (wz_at hn rfl 1 rfl) hs2 (wz_set hn rfl 1 rfl rfl) dX6_read_7 ?_
  refine pv_iconst (0 : Int32) hc dX6_read_10 rfl ?_
  refine pv_istore_n (L' := [(2, .int (0 : Int32)), (0, .ref (a + 29)), (1, .ref b)]) hc dX6_read_11 rfl hN (by decide) rfl ?_
  refine pv_aload_n 1 hc dX6_read_12 rfl rfl ?_
  obtain ⟨s4, hf3, h⟩ := BD_el h
  refine ca_X6_23 hc hX1 (wz_at hn rfl 1 rfl) (x5_begin_ok hX1 (j := 0) (by decide) (wz_at hn rfl 1 rfl) hf3) (by decide) (Nat.le_of_ble_eq_true rfl) dX6_read_13 ?_
  refine pv_G (wz_set (us := [(b, 2, e), (a, 0, s2)]) (us' := [(b, 2, e), (a, 0, s4)]) hn rfl 1 rfl rfl).symm ?_
  refine pv_sub [1, 0] rfl ?_
  refine LP3_el (P := fun v5 s6 s7 => V X 0 0 (wz G [(b, 2, s6), (a, 0, s7)]) [(0, .ref (a + 29)), (2, .int v5)] [] 16) ?_ FU _ _ _ h
  intro rec8 hrec8 v5 s6 s7 h
  refine pv_aload_n 0 hc dX6_read_16 rfl rfl ?_
  refine gf_X6_27 hc hX1 (wz_at hn rfl 1 rfl) dX6_read_17 ?_
  refine pv_if_eq (tgt := 119) hc dX6_read_20 (by decide) h (fun h => ?_) (fun h => ?_)
  · refine pv_iload_n 1 hc dX6_read_119 rfl rfl ?_
    exact px_iret hc hr hQ (by cases h; rfl) (fin_z (ro := []) (vs := [(b, 2, s6), (a, 0, s7)]) hro (by cases h; rfl)) dX6_read_120
  · refine pv_aload_n 0 hc dX6_read_23 rfl rfl ?_
    refine pv_aload_n 0 hc dX6_read_24 rfl rfl ?_
    refine gf_X6_3 hc hX1 (wz_at hn rfl 1 rfl) dX6_read_25 ?_
    refine gf_X6_30 hc hX1 (wz_at hn rfl 1 rfl) dX6_read_28 ?_
    obtain ⟨v10, hf9, h⟩ := BD_el h
    refine ca_X6_34 hc hX1 (wz_at hn rfl 1 rfl) (x5_find_ok hX1 (j := 0) (by decide) (wz_at hn rfl 1 rfl) (fun _ => v_lines hX1) (fun i hi => by omega) hf9) (by decide) (Nat.le_of_ble_eq_true rfl) dX6_read_31 ?_
    refine pv_istore_n (L' := [(3, .int v10), (0, .ref (a + 29)), (2, .int v5)]) hc dX6_read_34 rfl hN (by decide) rfl ?_
    refine pv_aload_n 1 hc dX6_read_35 rfl rfl ?_
    refine pv_iload_n 0 hc dX6_read_36 rfl rfl ?_
    refine pv_iconst (-1 : Int32) hc dX6_read_37 rfl ?_
    obtain ⟨j12, hj12, h⟩ := JN1_el (P := fun v11 => V X 0 0 (wz G [(b, 2, s6), (a, 0, s7)]) [(0, .ref (a + 29)), (2, .int v5), (3, .int v10)] [.int v11, .ref (a + 29)] 46) h (by
        intro v11 h
        refine pv_iconst (1 : Int32) hc dX6_read_46 rfl ?_
        rcases BX_el h with ⟨s14, hf13, h⟩ | ⟨u15, s14, hf13, h⟩
        · exact px_backT hc htb (cr_X6_38 hc hX1 (wz_at hn rfl 1 rfl) (x5_must_ok hX1 (j := 0) (by decide) (wz_at hn rfl 1 rfl) hf13) (by decide) (Nat.le_of_ble_eq_true rfl) dX6_read_47) ⟨Nat.zero_le _, Nat.zero_le _⟩ hQ (by cases h; rfl) ((fin_z (ro := []) (vs := [(b, 2, s6), (a, 0, s14)]) hro (by cases h; rfl)).trans (wz_set (us := [(b, 2, s6), (a, 0, s7)]) (us' := [(b, 2, s6), (a, 0, s14)]) hn rfl 1 rfl rfl).symm) (Nat.zero_le _) (Nat.zero_le _)
        refine px_backRv (cr_X6_38 hc hX1 (wz_at hn rfl 1 rfl) (x5_must_ok hX1 (j := 0) (by decide) (wz_at hn rfl 1 rfl) hf13) (by decide) (Nat.le_of_ble_eq_true rfl) dX6_read_47) ⟨Nat.zero_le _, Nat.zero_le _⟩ ?_
        refine pv_G (wz_set (us := [(b, 2, s6), (a, 0, s7)]) (us' := [(b, 2, s6), (a, 0, s14)]) hn rfl 1 rfl rfl).symm ?_
        refine pv_aload_n 0 hc dX6_read_50 rfl rfl ?_
        refine pv_iload_n 2 hc dX6_read_51 rfl rfl ?_
        refine pv_iconst (5 : Int32) hc dX6_read_52 rfl ?_
        obtain ⟨j17, hj17, h⟩ := JN1_el (P := fun v16 => V X 0 0 (wz G [(b, 2, s6), (a, 0, s14)]) [(0, .ref (a + 29)), (2, .int v5), (3, .int v10)] [.int v16, .ref (a + 29)] 72) h (by
            intro v16 h
            refine pv_iconst (3 : Int32) hc dX6_read_72 rfl ?_
            rcases BX_el h with ⟨s19, hf18, h⟩ | ⟨u20, s19, hf18, h⟩
            · exact px_backT hc htb (cr_X6_38 hc hX1 (wz_at hn rfl 1 rfl) (x5_must_ok hX1 (j := 0) (by decide) (wz_at hn rfl 1 rfl) hf18) (by decide) (Nat.le_of_ble_eq_true rfl) dX6_read_73) ⟨Nat.zero_le _, Nat.zero_le _⟩ hQ (by cases h; rfl) ((fin_z (ro := []) (vs := [(b, 2, s6), (a, 0, s19)]) hro (by cases h; rfl)).trans (wz_set (us := [(b, 2, s6), (a, 0, s14)]) (us' := [(b, 2, s6), (a, 0, s19)]) hn rfl 1 rfl rfl).symm) (Nat.zero_le _) (Nat.zero_le _)
            refine px_backRv (cr_X6_38 hc hX1 (wz_at hn rfl 1 rfl) (x5_must_ok hX1 (j := 0) (by decide) (wz_at hn rfl 1 rfl) hf18) (by decide) (Nat.le_of_ble_eq_true rfl) dX6_read_73) ⟨Nat.zero_le _, Nat.zero_le _⟩ ?_
            refine pv_G (wz_set (us := [(b, 2, s6), (a, 0, s14)]) (us' := [(b, 2, s6), (a, 0, s19)]) hn rfl 1 rfl rfl).symm ?_
            refine pv_aload_n 0 hc dX6_read_76 rfl rfl ?_
            refine pv_aload_n 0 hc dX6_read_77 rfl rfl ?_
            refine pv_iload_n 2 hc dX6_read_78 rfl rfl ?_
            obtain ⟨v22, hf21, h⟩ := BD_el h
            refine ca_X6_46 hc hX1 (wz_at hn rfl 1 rfl) (x6_isRoom_ok hX1 hX3 (wz_at hn rfl 1 rfl) (wz_at hn rfl 0 rfl) hf21) (by decide) (Nat.le_of_ble_eq_true rfl) dX6_read_79 ?_
            refine pv_iconst (4 : Int32) hc dX6_read_82 rfl ?_
            rcases BX_el h with ⟨s24, hf23, h⟩ | ⟨u25, s24, hf23, h⟩
            · exact px_backT hc htb (cr_X6_38 hc hX1 (wz_at hn rfl 1 rfl) (x5_must_ok hX1 (j := 0) (by decide) (wz_at hn rfl 1 rfl) hf23) (by decide) (Nat.le_of_ble_eq_true rfl) dX6_read_83) ⟨Nat.zero_le _, Nat.zero_le _⟩ hQ (by cases h; rfl) ((fin_z (ro := []) (vs := [(b, 2, s6), (a, 0, s24)]) hro (by cases h; rfl)).trans (wz_set (us := [(b, 2, s6), (a, 0, s19)]) (us' := [(b, 2, s6), (a, 0, s24)]) hn rfl 1 rfl rfl).symm) (Nat.zero_le _) (Nat.zero_le _)
            refine px_backRv (cr_X6_38 hc hX1 (wz_at hn rfl 1 rfl) (x5_must_ok hX1 (j := 0) (by decide) (wz_at hn rfl 1 rfl) hf23) (by decide) (Nat.le_of_ble_eq_true rfl) dX6_read_83) ⟨Nat.zero_le _, Nat.zero_le _⟩ ?_
            refine pv_G (wz_set (us := [(b, 2, s6), (a, 0, s19)]) (us' := [(b, 2, s6), (a, 0, s24)]) hn rfl 1 rfl rfl).symm ?_
            refine pv_aload_n 0 hc dX6_read_86 rfl rfl ?_
            refine pv_dup hc dX6_read_87 rfl ?_
            refine gf_X6_19 hc hX1 (wz_at hn rfl 1 rfl) dX6_read_88 ?_
            refine pv_iconst (1 : Int32) hc dX6_read_91 rfl ?_
            refine pv_iload_n 2 hc dX6_read_92 rfl rfl ?_
            refine pv_ishl hc dX6_read_93 ?_
            refine pv_ior hc dX6_read_94 ?_
            obtain ⟨s26, hs26, h⟩ := LT_el h
            refine pf_X6_19 (G1 := (wz G [(b, 2, s6), (a, 0, s26)])) hc hX1 (wz_at hn rfl 1 rfl) hs26 (wz_set hn rfl 1 rfl rfl) dX6_read_95 ?_
            refine pv_aload_n 0 hc dX6_read_98 rfl rfl ?_
            obtain ⟨s28, hf27, h⟩ := BD_el h
            refine ca_X6_50 hc hX1 (wz_at hn rfl 1 rfl) (x5_next_ok hX1 (j := 0) (by decide) (wz_at hn rfl 1 rfl) hf27) (by decide) (Nat.le_of_ble_eq_true rfl) dX6_read_99 ?_
            refine pv_G (wz_set (us := [(b, 2, s6), (a, 0, s26)]) (us' := [(b, 2, s6), (a, 0, s28)]) hn rfl 1 rfl rfl).symm ?_
            refine pv_aload_n 0 hc dX6_read_102 rfl rfl ?_
            refine pv_iload_n 2 hc dX6_read_103 rfl rfl ?_
            rcases BX2_el h with ⟨s30, s31, hf29, h⟩ | ⟨u32, s30, s31, hf29, h⟩
            · exact px_backT hc htb (cr_X6_53 hc hX1 (wz_at hn rfl 1 rfl) (x6_line_ok hX1 hX3 (wz_at hn rfl 1 rfl) (wz_at hn rfl 0 rfl) hf29) (by decide) (Nat.le_of_ble_eq_true rfl) dX6_read_104) ⟨Nat.zero_le _, Nat.zero_le _⟩ hQ (by cases h; rfl) ((fin_z (ro := []) (vs := [(b, 2, s30), (a, 0, s31)]) hro (by cases h; rfl)).trans ((congrArg (fun W => wp W a 0 s31) (wz_set (us := [(b, 2, s6), (a, 0, s28)]) (us' := [(b, 2, s30), (a, 0, s28)]) hn rfl 0 rfl rfl)).trans (wz_set (us := [(b, 2, s30), (a, 0, s28)]) (us' := [(b, 2, s30), (a, 0, s31)]) hn rfl 1 rfl rfl)).symm) (Nat.zero_le _) (Nat.zero_le _)
            refine px_backRv (cr_X6_53 hc hX1 (wz_at hn rfl 1 rfl) (x6_line_ok hX1 hX3 (wz_at hn rfl 1 rfl) (wz_at hn rfl 0 rfl) hf29) (by decide) (Nat.le_of_ble_eq_true rfl) dX6_read_104) ⟨Nat.zero_le _, Nat.zero_le _⟩ ?_
            refine pv_G ((congrArg (fun W => wp W a 0 s31) (wz_set (us := [(b, 2, s6), (a, 0, s28)]) (us' := [(b, 2, s30), (a, 0, s28)]) hn rfl 0 rfl rfl)).trans (wz_set (us := [(b, 2, s30), (a, 0, s28)]) (us' := [(b, 2, s30), (a, 0, s31)]) hn rfl 1 rfl rfl)).symm ?_
            refine pv_aload_n 0 hc dX6_read_107 rfl rfl ?_
            refine pv_bipush (59 : Int32) hc dX6_read_108 rfl ?_
            rcases BX_el h with ⟨s34, hf33, h⟩ | ⟨u35, s34, hf33, h⟩
            · exact px_backT hc htb (cr_X6_57 hc hX1 (wz_at hn rfl 1 rfl) (x5_sign_ok hX1 (j := 0) (by decide) (wz_at hn rfl 1 rfl) hf33) (by decide) (Nat.le_of_ble_eq_true rfl) dX6_read_110) ⟨Nat.zero_le _, Nat.zero_le _⟩ hQ (by cases h; rfl) ((fin_z (ro := []) (vs := [(b, 2, s30), (a, 0, s34)]) hro (by cases h; rfl)).trans (wz_set (us := [(b, 2, s30), (a, 0, s31)]) (us' := [(b, 2, s30), (a, 0, s34)]) hn rfl 1 rfl rfl).symm) (Nat.zero_le _) (Nat.zero_le _)
            refine px_backRv (cr_X6_57 hc hX1 (wz_at hn rfl 1 rfl) (x5_sign_ok hX1 (j := 0) (by decide) (wz_at hn rfl 1 rfl) hf33) (by decide) (Nat.le_of_ble_eq_true rfl) dX6_read_110) ⟨Nat.zero_le _, Nat.zero_le _⟩ ?_
            refine pv_G (wz_set (us := [(b, 2, s30), (a, 0, s31)]) (us' := [(b, 2, s30), (a, 0, s34)]) hn rfl 1 rfl rfl).symm ?_
            refine pv_iinc (L' := [(2, .int (v5 + (1 : Int32))), (0, .ref (a + 29)), (3, .int v10)]) 1 (v5 + (1 : Int32)) hc dX6_read_113 rfl rfl hN (by decide) rfl ?_
            refine pv_goto (tgt := 16) hc dX6_read_116 (by decide) ?_
            refine pv_sub [1, 0] rfl ?_
            exact hrec8 _ _ _ h)
        refine pv_icmp_lt (tgt := 67) hc dX6_read_53 (by decide) h (fun h => ?_) (fun h => ?_)
        · refine pv_iconst (1 : Int32) hc dX6_read_67 rfl ?_
          refine pv_goto (tgt := 72) hc dX6_read_68 (by decide) ?_
          exact hj17 _ h
        · refine pv_aload_n 0 hc dX6_read_56 rfl rfl ?_
          refine gf_X6_19 hc hX1 (wz_at hn rfl 1 rfl) dX6_read_57 ?_
          refine pv_iload_n 2 hc dX6_read_60 rfl rfl ?_
          obtain ⟨v37, hf36, h⟩ := BD_el h
          refine ca_X6_42 hc (x1_has_ok   hf36) (by decide) (Nat.le_of_ble_eq_true rfl) dX6_read_61 ?_
          refine pv_if_ne (tgt := 71) hc dX6_read_64 (by decide) h (fun h => ?_) (fun h => ?_)
          · refine pv_iconst (0 : Int32) hc dX6_read_71 rfl ?_
            exact hj17 _ h
          · refine pv_iconst (1 : Int32) hc dX6_read_67 rfl ?_
            refine pv_goto (tgt := 72) hc dX6_read_68 (by decide) ?_
            exact hj17 _ h)
    refine pv_icmp_eq (tgt := 45) hc dX6_read_38 (by decide) h (fun h => ?_) (fun h => ?_)
    · refine pv_iconst (0 : Int32) hc dX6_read_45 rfl ?_
      refine pv_sub [1, 2, 0] rfl ?_
      exact hj12 _ h
    · refine pv_iconst (1 : Int32) hc dX6_read_41 rfl ?_
      refine pv_goto (tgt := 46) hc dX6_read_42 (by decide) ?_
      refine pv_sub [1, 2, 0] rfl ?_
      exact hj12 _ h
