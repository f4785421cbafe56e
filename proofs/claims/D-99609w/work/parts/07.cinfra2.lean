/-! ROWS FOR METHODS THAT MAY THROW (one exception object, known by its address), and inherited methods -/
set_option maxRecDepth 100000
def QfX (g : Gh) (o : Option (Option Value)) (G1 : Wd) : Array Value → State → Outcome → State → Prop := fun _ _ oc t => ∃ r, o = some r ∧ oc = .returned r ∧ GW g G1 t.heap
def XfX (g : Gh) (fa : Nat) (E0 : String) (o : Option (Option Value)) (G1 : Wd) : Addr → String → State → State → Prop := fun q E _ t => o = none ∧ q = fa ∧ E = E0 ∧ GW g G1 t.heap
/-- a contract of a method that may throw: o is none for a throw of the object fa of the class E0 -/
def MXa (l : Launch) (g : Gh) (y : MethodName) (cc : ByteArray) (nL : Nat) (ret : Option FieldType) (ht mc ms fa : Nat) (E0 : String) (G : Wd) (As : List Value) (o : Option (Option Value)) (G1 : Wd) : Prop :=
  vy_Met l y (ws_ y cc nL ret) ({ frames := ht, cells := mc, slots := ms, locals := 64 * ht }) (va_Pc As (fun U => ST g U ∧ GW g G U.heap)) (QfX g o G1) (XfX g fa E0 o G1) mc ms (fun q => gb g ≤ q)
abbrev QX (X : CX) (fa : Nat) (E0 : String) (o : Option (Option Value)) (G1 : Wd) (mc ms : Nat) : State → Prop := vy_MQ (xb X) (QfX (xg X) o G1) (XfX (xg X) fa E0 o G1) (xa X) (xs X) mc ms (fun q => gb (xg X) ≤ q)
theorem pv_startX {l : Launch} {g : Gh} {y : MethodName} {cc : ByteArray} {nL : Nat} {ret : Option FieldType} {ht mc ms fa : Nat} {E0 : String} {G : Wd} {As : List Value} {o : Option (Option Value)} {G1 : Wd} (hy : plainName y.cls = true) (hn : (lg_sl As).length ≤ nL)
    (body : ∀ X : CX, xl X = l → xg X = g → xn X = nL → OK X cc y.cls ht → (xt X).sig.returnType = ret → (∀ x ∈ (xc X).exceptionTable.toList, False) → (xR X).cells = mc → (xR X).slots = ms → xQ X = QX X fa E0 o G1 mc ms → V X 0 0 G (lv_args 0 As) [] 0) :
    MXa l g y cc nL ret ht mc ms fa E0 G As o G1 := by
  refine vy_ofW (cc := cc) (maxL := nL) (ret := ret) hy rfl ?_
  intro p e s m args below meth c s₁ B hml htb hv
  obtain ⟨rfl, hST, hG⟩ := hv
  have hts := atoms_spec (ws := ws_ y cc nL ret) B.pre
  have hts : ∀ w ∈ lw_all, w.before _ s = true := fun w h => hts w (List.mem_cons_of_mem _ h)
  have hl := lv_entry As (n := nL) hn
  rw [lg_entry_eq]
  have hb := body (p, l, e, { frames := ht, cells := mc, slots := ms, locals := 64 * ht }, s, m, As.toArray, below, meth, c, g, nL, vy_MQ below (QfX g o G1) (XfX g fa E0 o G1) As.toArray s mc ms (fun q => gb g ≤ q)) rfl rfl rfl
    ⟨B.exec, B.bytes, hml, findClass_of_methodNamed B.named, hts, hST, B.notSynchronized, rfl, rfl⟩ B.returns htb rfl rfl rfl (Nat.zero_le _) (Nat.zero_le _) s.heap [] _ hG (fun q hq => by cases hq) hl
  exact hb
theorem lw_5 {w1 w2 w3 w4 w5 : Cond} (h1 : w1 ∈ lw_all) (h2 : w2 ∈ lw_all) (h3 : w3 ∈ lw_all) (h4 : w4 ∈ lw_all) (h5 : w5 ∈ lw_all) : ∀ w ∈ [w1, w2, w3, w4, w5], w ∈ lw_all := by
  intro w h
  simp only [List.mem_cons, List.not_mem_nil, or_false] at h
  rcases h with rfl | rfl | rfl | rfl | rfl <;> assumption
section PX
variable {X : CX} {cc : ByteArray} {own : String} {ht k n : Nat} {G : Wd} {L : List (Nat × Value)} {st : List Value} {pc : Nat}
theorem pv_aret {v : Nat} {C : String} {r : Option Value} {G1 : Wd} (hc : OK X cc own ht) (hr : (xt X).sig.returnType = some (.object C)) (hQ : xQ X = MQ (xb X) (Qf (xg X) r G1) (xa X) (xs X) k n (fun q => gb (xg X) ≤ q)) (e1 : r = some (.ref v)) (e2 : G1 = G) (d : decode cc pc = .ok (.areturn, 1)) : V X k n G L [.ref v] pc := by
  intro hk hn H locs ls hW hS hl
  subst e1; subst e2
  rw [hQ]
  exact W.aret hc.1 hc.2.1 hr (Or.inl ⟨_, rfl⟩) (Or.inr ⟨_, rfl⟩) (fun t ht hW1 => ⟨rfl, by rw [ht]; exact hW⟩) hS d hc.2.2.2.2.2.2.1
/-- ends of a method that may throw -/
theorem px_iret {v : Int32} {o : Option (Option Value)} {fa : Nat} {E0 : String} {G1 : Wd} (hc : OK X cc own ht) (hr : (xt X).sig.returnType = some .int) (hQ : xQ X = QX X fa E0 o G1 k n) (e1 : o = some (some (.int v))) (e2 : G1 = G) (d : decode cc pc = .ok (.ireturn, 1)) : V X k n G L [.int v] pc := by
  intro hk hn H locs ls hW hS hl
  subst e1; subst e2
  rw [hQ]
  exact vy_ret (W.iret hc.1 hc.2.1 hr (fun t ht hW1 => ⟨_, rfl, rfl, by rw [ht]; exact hW⟩) hS d hc.2.2.2.2.2.2.1)
theorem px_lret {v : Int64} {o : Option (Option Value)} {fa : Nat} {E0 : String} {G1 : Wd} (hc : OK X cc own ht) (hr : (xt X).sig.returnType = some .long) (hQ : xQ X = QX X fa E0 o G1 k n) (e1 : o = some (some (.long v))) (e2 : G1 = G) (d : decode cc pc = .ok (.lreturn, 1)) : V X k n G L [.long v] pc := by
  intro hk hn H locs ls hW hS hl
  subst e1; subst e2
  rw [hQ]
  exact vy_ret (W.lret hc.1 hc.2.1 hr (fun t ht hW1 => ⟨_, rfl, rfl, by rw [ht]; exact hW⟩) hS d hc.2.2.2.2.2.2.1)
theorem px_vret {o : Option (Option Value)} {fa : Nat} {E0 : String} {G1 : Wd} (hc : OK X cc own ht) (hr : (xt X).sig.returnType = none) (hQ : xQ X = QX X fa E0 o G1 k n) (e1 : o = some none) (e2 : G1 = G) (d : decode cc pc = .ok (.return_, 1)) : V X k n G L [] pc := by
  intro hk hn H locs ls hW hS hl
  subst e1; subst e2
  rw [hQ]
  exact vy_ret (W.vret hc.1 hc.2.1 hr (fun t ht hW1 => ⟨_, rfl, rfl, by rw [ht]; exact hW⟩) hS d hc.2.2.2.2.2.2.1)
theorem px_aret {v : Nat} {C : String} {o : Option (Option Value)} {fa : Nat} {E0 : String} {G1 : Wd} (hc : OK X cc own ht) (hr : (xt X).sig.returnType = some (.object C)) (hQ : xQ X = QX X fa E0 o G1 k n) (e1 : o = some (some (.ref v))) (e2 : G1 = G) (d : decode cc pc = .ok (.areturn, 1)) : V X k n G L [.ref v] pc := by
  intro hk hn H locs ls hW hS hl
  subst e1; subst e2
  rw [hQ]
  exact vy_ret (W.aret hc.1 hc.2.1 hr (Or.inl ⟨_, rfl⟩) (Or.inr ⟨_, rfl⟩) (fun t ht hW1 => ⟨_, rfl, rfl, by rw [ht]; exact hW⟩) hS d hc.2.2.2.2.2.2.1)
/-- rounding up what was made, ahead of an end -/
theorem pv_widen {k' n' : Nat} (h1 : k ≤ k') (h2 : n ≤ n') (hk' : k' ≤ (xR X).cells) (hn' : n' ≤ (xR X).slots) (h : V X k' n' G L st pc) : V X k n G L st pc := fun _ _ H locs ls hW hS hl => W.widen h1 h2 (h hk' hn' H locs ls hW hS hl)
/-- 'throw' of an object of the ghost heap, that leaves the method -/
theorem px_athrow {kd a ie q ci : Nat} {r : Rec} {fs : List Value} {C : String} {T : u_T} {N : Nat} {o : Option (Option Value)} {G1 : Wd} {mc ms : Nat} (hc : OK X cc own ht) (htb : ∀ x ∈ (xc X).exceptionTable.toList, False) (hG : G.2 a = some (kd, r)) (he : (gE (xg X) kd a r)[ie]? = some (q, .inr (ci, fs))) (hcl : (gcl (xg X))[ci]? = some (C, T, N)) (hQ : xQ X = QX X q C o G1 mc ms) (e1 : o = none) (e2 : G1 = G) (hk : k ≤ mc) (hn : n ≤ ms) (d : decode cc pc = .ok (.athrow, 1)) : V X k n G L (.ref q :: st) pc := by
  intro _ _ H locs ls hW hS hl
  subst e1; subst e2
  rw [hQ]
  obtain ⟨r0, h1, cell, q1, q2, q3, q4⟩ := hW.at hG he
  have hr : r0 = (C, T, N) := Option.some.inj (h1.symm.trans hcl)
  subst hr
  obtain ⟨hSl, hfc, kC, hkC, hkind⟩ := hc.2.2.2.2.2.1.1.1 ci _ hcl
  exact vy_athrow hc.1 hc.2.1 d (vy_out (E := C) (ce := cell) (fun x hx => (htb x hx).elim) hc.2.2.2.2.2.2.1 q1 q3 (by rw [q2]; exact hfc) (fun t ht hA => ⟨rfl, rfl, rfl, by rw [ht]; exact hW⟩) hS hk hn)
/-- behind a call of a method that may throw: it returned -/
theorem px_backR {T0 : List Value} {mc ms fa : Nat} {E0 : String} {r : Option Value} {G1 : Wd} (hM : ∀ (H : Heap) (locs : List Loc) (ls : Array Slot), GW (xg X) G H → lv_has ls (xn X) L → k + mc ≤ (xR X).cells → n + ms ≤ (xR X).slots → vy_Run (xp X) (xl X) (xe X) (xR X) (xs X) (xm X) (xa X) (xb X) (xt X) (xc X) H locs k n mc ms (F0 (xm X) pc ls T0) st (QfX (xg X) (some r) G1 (xa X)) (XfX (xg X) fa E0 (some r) G1) (fun q => gb (xg X) ≤ q)) (hcap : k + mc ≤ (xR X).cells ∧ n + ms ≤ (xR X).slots) (h : V X (k + mc) (n + ms) G1 L (r.toList ++ st) (pc + 3)) : V X k n G L T0 pc := by
  intro hk hn H locs ls hW hS hl T hT S
  rcases hM H locs ls hW hl hcap.1 hcap.2 T hT S with ⟨v, st₀, t, T', L', h0, X', hL, e1, e2, ⟨r', hr', hv, hb⟩, go⟩ | ⟨q, st₀, t, T', L', E, ce, h0, X', hL, e1, e2, ⟨hx, -⟩, -⟩
  · cases hr'
    cases hv
    obtain ⟨t2, a1, b1⟩ := h hcap.1 hcap.2 T'.heap (locs ++ L') ls (by rw [e1]; exact hb) (fun q hq => by
        rcases List.mem_append.mp hq with h | h
        · exact hS q h
        · exact hL q h) hl T' rfl X'
    exact ⟨t2, go t2 a1, b1⟩
  · cases hx
/-- behind a call of a method that may throw: it threw, and that leaves this method too -/
theorem px_backT {T0 : List Value} {mc ms fa mc' ms' : Nat} {E0 : String} {o : Option (Option Value)} {G1 G2 : Wd} (hc : OK X cc own ht) (htb : ∀ x ∈ (xc X).exceptionTable.toList, False) (hM : ∀ (H : Heap) (locs : List Loc) (ls : Array Slot), GW (xg X) G H → lv_has ls (xn X) L → k + mc ≤ (xR X).cells → n + ms ≤ (xR X).slots → vy_Run (xp X) (xl X) (xe X) (xR X) (xs X) (xm X) (xa X) (xb X) (xt X) (xc X) H locs k n mc ms (F0 (xm X) pc ls T0) st (QfX (xg X) none G1 (xa X)) (XfX (xg X) fa E0 none G1) (fun q => gb (xg X) ≤ q)) (hcap : k + mc ≤ (xR X).cells ∧ n + ms ≤ (xR X).slots) (hQ : xQ X = QX X fa E0 o G2 mc' ms') (e1 : o = none) (e2 : G2 = G1) (hk' : k + mc ≤ mc') (hn' : n + ms ≤ ms') : V X k n G L T0 pc := by
  intro hk hn H locs ls hW hS hl T hT S
  subst e1; subst e2
  rcases hM H locs ls hW hl hcap.1 hcap.2 T hT S with ⟨v, st₀, t, T', L', h0, X', hL, e1, e2, ⟨r', hr', -⟩, -⟩ | ⟨q, st₀, t, T', L', E, ce, h0, X', hL, e1, e2, ⟨-, hq, hE, hb⟩, hce, hcv, hcl, go⟩
  · cases hr'
  · subst hq; subst hE
    have hout : vy_W (xp X) (xl X) (xe X) (xR X) (xs X) (xm X) (xa X) (xb X) (xt X) (xc X) T'.heap (locs ++ L') (k + mc) (n + ms) (xQ X) (F0 (xm X) pc ls st) q := by
      rw [hQ]
      refine vy_out (E := E) (ce := ce) (fun x hx => (htb x hx).elim) hc.2.2.2.2.2.2.1 (by rw [e1]; exact hce) hcv hcl (fun t9 ht9 hA => ⟨rfl, rfl, rfl, by rw [ht9, e1]; exact hb⟩) (fun z hz => by
        rcases List.mem_append.mp hz with h | h
        · exact hS z h
        · exact hL z h) hk' hn'
    obtain ⟨t2, a1, b1⟩ := hout T' rfl X'
    exact ⟨t2, go.trans a1, b1⟩
/-- a method of a class above, by the receiver's class -/
theorem pv_callU {C owner : String} {x y : MethodName} {bytes : ByteArray} {maxL hy index nA mc ms kd ci a ie b : Nat} {ret : Option FieldType} {As T0 : List Value} {r : Option Value} {G1 : Wd} {rb : Rec} {fs : List Value} {TT : u_T} {NN : Nat} (hc : OK X cc own ht) (hM : MTa (xl X) (xg X) y bytes maxL ret hy mc ms G (.ref b :: As) r G1) (hG : G.2 a = some (kd, rb)) (he : (gE (xg X) kd a rb)[ie]? = some (b, .inr (ci, fs))) (hcl : (gcl (xg X))[ci]? = some (C, TT, NN)) (hw : GoodIn lw_all (va_wsU own index C owner x y (ws_ y bytes maxL ret))) (hyx : y = ⟨owner, x.name, x.desc⟩) (hd : owner ≠ "java/lang/invoke/MethodHandle" ∧ owner ≠ "java/lang/invoke/VarHandle" ∧ (parseMethodDescriptor x.desc).map (fun d => d.parameters.length) = some nA) (hh : hy < ht ∧ maxL ≤ 45) (hn : As.length = nA) (hs : T0 = As.reverse ++ .ref b :: st) (hst : (st.map fun v => v.category).sum ≤ 8) (d : decode cc pc = .ok (.invokevirtual index, 3)) (hcap : k + mc ≤ (xR X).cells ∧ n + ms ≤ (xR X).slots) (h : V X (k + mc) (n + ms) G1 L (r.toList ++ st) (pc + 3)) : V X k n G L T0 pc := by
  refine pv_back rfl (fun H locs ls hW hl h1 h2 => ?_) hcap h
  have cw := va_cwU (R := xR X) nA hc.2.2.2.2.1 hw rfl (rm := { frames := hy, cells := mc, slots := ms, locals := 64 * hy }) rfl rfl hyx hd ⟨by rw [hc.2.2.2.2.2.2.2.1]; exact hh.1, by rw [hc.2.2.2.2.2.2.2.2]; show 8 + (maxL + 11) + 64 * hy ≤ 64 * ht; omega⟩
  exact va_runU (As := As) (rest := st) ⟨hc.1, hc.2.1, hc.2.2.1, hc.2.2.2.1, hc.2.2.2.2.1⟩ hM cw ⟨blindPc _ _ _, va_recv hc.2.2.2.2.2.1.1 (hW.P hG he) (q0 := 0) hcl rfl, fun U hU hWm => ⟨rfl, ST.warm hWm hc.2.2.2.2.2.1, by rw [hU]; exact hW⟩⟩ rfl hn hl.1 hs (lv_room hst) d ⟨h1, h2⟩
theorem px_runU {C owner : String} {x y : MethodName} {bytes : ByteArray} {maxL hy index nA mc ms kd ci a ie b fa : Nat} {E0 : String} {ret : Option FieldType} {As T0 : List Value} {o : Option (Option Value)} {G1 : Wd} {rb : Rec} {fs : List Value} {TT : u_T} {NN : Nat} (hc : OK X cc own ht) (hM : MXa (xl X) (xg X) y bytes maxL ret hy mc ms fa E0 G (.ref b :: As) o G1) (hG : G.2 a = some (kd, rb)) (he : (gE (xg X) kd a rb)[ie]? = some (b, .inr (ci, fs))) (hcl : (gcl (xg X))[ci]? = some (C, TT, NN)) (hw : GoodIn lw_all (va_wsU own index C owner x y (ws_ y bytes maxL ret))) (hyx : y = ⟨owner, x.name, x.desc⟩) (hd : owner ≠ "java/lang/invoke/MethodHandle" ∧ owner ≠ "java/lang/invoke/VarHandle" ∧ (parseMethodDescriptor x.desc).map (fun d => d.parameters.length) = some nA) (hh : hy < ht ∧ maxL ≤ 45) (hn : As.length = nA) (hs : T0 = As.reverse ++ .ref b :: st) (hst : (st.map fun v => v.category).sum ≤ 8) (d : decode cc pc = .ok (.invokevirtual index, 3)) : ∀ (H : Heap) (locs : List Loc) (ls : Array Slot), GW (xg X) G H → lv_has ls (xn X) L → k + mc ≤ (xR X).cells → n + ms ≤ (xR X).slots → vy_Run (xp X) (xl X) (xe X) (xR X) (xs X) (xm X) (xa X) (xb X) (xt X) (xc X) H locs k n mc ms (F0 (xm X) pc ls T0) st (QfX (xg X) o G1 (xa X)) (XfX (xg X) fa E0 o G1) (fun q => gb (xg X) ≤ q) := by
  intro H locs ls hW hl h1 h2
  have cw := va_cwU (R := xR X) nA hc.2.2.2.2.1 hw rfl (rm := { frames := hy, cells := mc, slots := ms, locals := 64 * hy }) rfl rfl hyx hd ⟨by rw [hc.2.2.2.2.2.2.2.1]; exact hh.1, by rw [hc.2.2.2.2.2.2.2.2]; show 8 + (maxL + 11) + 64 * hy ≤ 64 * ht; omega⟩
  exact vy_runU (As := As) (rest := st) ⟨hc.1, hc.2.1, hc.2.2.1, hc.2.2.2.1, hc.2.2.2.2.1⟩ hM cw ⟨blindPc _ _ _, va_recv hc.2.2.2.2.2.1.1 (hW.P hG he) (q0 := 0) hcl rfl, fun U hU hWm => ⟨rfl, ST.warm hWm hc.2.2.2.2.2.1, by rw [hU]; exact hW⟩⟩ rfl hn hl.1 hs (lv_room hst) d ⟨h1, h2⟩
theorem px_runV {C : String} {y : MethodName} {bytes : ByteArray} {maxL hy index nA mc ms kd ci a ie b fa : Nat} {E0 : String} {ret : Option FieldType} {As T0 : List Value} {o : Option (Option Value)} {G1 : Wd} {rb : Rec} {fs : List Value} {TT : u_T} {NN : Nat} (hc : OK X cc own ht) (hM : MXa (xl X) (xg X) y bytes maxL ret hy mc ms fa E0 G (.ref b :: As) o G1) (hG : G.2 a = some (kd, rb)) (he : (gE (xg X) kd a rb)[ie]? = some (b, .inr (ci, fs))) (hcl : (gcl (xg X))[ci]? = some (C, TT, NN)) (hw : GoodIn lw_all (wsV own index C y (ws_ y bytes maxL ret))) (hd : y.cls = C ∧ y.cls ≠ "java/lang/invoke/MethodHandle" ∧ y.cls ≠ "java/lang/invoke/VarHandle" ∧ (parseMethodDescriptor y.desc).map (fun d => d.parameters.length) = some nA) (hh : hy < ht ∧ maxL ≤ 45) (hn : As.length = nA) (hs : T0 = As.reverse ++ .ref b :: st) (hst : (st.map fun v => v.category).sum ≤ 8) (d : decode cc pc = .ok (.invokevirtual index, 3)) : ∀ (H : Heap) (locs : List Loc) (ls : Array Slot), GW (xg X) G H → lv_has ls (xn X) L → k + mc ≤ (xR X).cells → n + ms ≤ (xR X).slots → vy_Run (xp X) (xl X) (xe X) (xR X) (xs X) (xm X) (xa X) (xb X) (xt X) (xc X) H locs k n mc ms (F0 (xm X) pc ls T0) st (QfX (xg X) o G1 (xa X)) (XfX (xg X) fa E0 o G1) (fun q => gb (xg X) ≤ q) := by
  intro H locs ls hW hl h1 h2
  have cw := cwV (R := xR X) nA hc.2.2.2.2.1 hw rfl (rm := { frames := hy, cells := mc, slots := ms, locals := 64 * hy }) rfl rfl hd ⟨by rw [hc.2.2.2.2.2.2.2.1]; exact hh.1, by rw [hc.2.2.2.2.2.2.2.2]; show 8 + (maxL + 11) + 64 * hy ≤ 64 * ht; omega⟩
  exact vy_runV (As := As) (rest := st) ⟨hc.1, hc.2.1, hc.2.2.1, hc.2.2.2.1, hc.2.2.2.2.1⟩ hM cw ⟨blindPc _ _ _, va_recv hc.2.2.2.2.2.1.1 (hW.P hG he) (q0 := 0) hcl rfl, fun U hU hWm => ⟨rfl, ST.warm hWm hc.2.2.2.2.2.1, by rw [hU]; exact hW⟩⟩ rfl hn hl.1 hs (lv_room hst) d ⟨h1, h2⟩
/-- an element of an array of references, not null -/
theorem pv_aald {kd a off i0 N : Nat} {r : Rec} {cA : ClassId} {C : String} {f : Nat → Option Nat} {i : Int32} {j q : Nat} (hc : OK X cc own ht) (hG : G.2 a = some (kd, r)) (he : (gE (xg X) kd a r)[off]? = some (i0, .inl (cA, N, .inr (.inr (.inr (.inr f)))))) (t0 : Nat) (hty : (gty (xg X))[t0]? = some (cA, .object C)) (hj : vp_in i N ∧ i.toNatClampNeg = j) (hq : f j = some q) (d : decode cc pc = .ok (.aaload, 1)) (h : V X k n G L (.ref q :: st) (pc + 1)) : V X k n G L (.int i :: .ref i0 :: st) pc := by
  intro hk hn H locs ls hW hS hl
  refine va_aldq hc.1 hc.2.1 hc.2.2.2.2.2.1.1 (hW.P hG he) 0 t0 rfl hty hj.1 d ?_
  rw [hj.2, hq]
  exact h hk hn H locs ls hW hS hl
end PX
/-- the callee returned, or threw -/
def BX {α β : Type} (o : Option (Option α × Rec)) (kx : Rec → Option β) (k : α → Rec → Option β) : Option β := match o with | none => none | some (none, s) => kx s | some (some v, s) => k v s
theorem BX_el {α β : Type} {o : Option (Option α × Rec)} {kx : Rec → Option β} {k : α → Rec → Option β} {r : β} (h : BX o kx k = some r) : (∃ s, o = some (none, s) ∧ kx s = some r) ∨ ∃ v s, o = some (some v, s) ∧ k v s = some r := by
  match o, h with
  | none, h => cases h
  | some (none, s), h => exact Or.inl ⟨s, rfl, h⟩
  | some (some v, s), h => exact Or.inr ⟨v, s, rfl, h⟩
theorem BX_t {α β : Type} (s : Rec) (kx : Rec → Option β) (k : α → Rec → Option β) : BX (some (none, s)) kx k = kx s := rfl
theorem BX_r {α β : Type} (v : α) (s : Rec) (kx : Rec → Option β) (k : α → Rec → Option β) : BX (some (some v, s)) kx k = k v s := rfl
/-- a reference that must be the one that is known -/
def PG {β : Type} (o : Option Nat) (a : Nat) (k : Option β) : Option β := if o = some a then k else none
theorem PG_el {β : Type} {o : Option Nat} {a : Nat} {k : Option β} {r : β} (h : PG o a k = some r) : o = some a ∧ k = some r := by
  unfold PG at h
  by_cases hc : o = some a
  · rw [if_pos hc] at h; exact ⟨hc, h⟩
  · rw [if_neg hc] at h; cases h
theorem PG_of {β : Type} {o : Option Nat} {a : Nat} (k : Option β) (h : o = some a) : PG o a k = k := if_pos h
