/-! handlers, abstract and interface calls -/
set_option maxRecDepth 100000
def condN : MethodName := ⟨"ParlourLeaves$Cond", "is", "(LParlourLeaves;I)Z"⟩
def condY (C : String) : MethodName := ⟨C, "is", "(LParlourLeaves;I)Z"⟩
/-- what holds of the classes all through a run, beside the words of lw_all -/
def AX (U : State) : Prop := va_Nw (.castable "ParlourLeaves$Fault" "ParlourLeaves$Fault") U ∧ va_Nw (.castable "java/util/NoSuchElementException" "java/util/NoSuchElementException") U ∧
  (va_Nw (.castable "ParlourLeaves$Days" "ParlourLeaves$Line") U ∧ va_Nw (.castable "ParlourLeaves$Sponges" "ParlourLeaves$Line") U ∧ va_Nw (.castable "ParlourLeaves$Carries" "ParlourLeaves$Line") U ∧ va_Nw (.castable "ParlourLeaves$Does" "ParlourLeaves$Line") U) ∧
  (va_Fw "ParlourLeaves$Not" condN (condY "ParlourLeaves$Not") U ∧ va_Fw "ParlourLeaves$Marks" condN (condY "ParlourLeaves$Marks") U ∧ va_Fw "ParlourLeaves$Counts" condN (condY "ParlourLeaves$Counts") U ∧ va_Fw "ParlourLeaves$Both" condN (condY "ParlourLeaves$Both") U ∧ va_Fw "ParlourLeaves$Any" condN (condY "ParlourLeaves$Any") U) ∧
  (va_AO "java/lang/String" U ∧ va_AO "ParlourLeaves$State" U ∧ va_AO "ParlourLeaves$Kept" U ∧ va_AO "ParlourLeaves$Line" U)
theorem AX.warm {s U : State} (hW : s.WarmedH U.vm) (h : AX s) : AX U := by
  obtain ⟨h1, h2, ⟨h3, h4, h5, h6⟩, ⟨h7, h8, h9, h10, h11⟩, h12, h13, h14, h15⟩ := h
  have hx : condN.cls ≠ "java/lang/invoke/MethodHandle" ∧ condN.cls ≠ "java/lang/invoke/VarHandle" := by decide
  exact ⟨h1.warmC hW, h2.warmC hW, ⟨h3.warmC hW, h4.warmC hW, h5.warmC hW, h6.warmC hW⟩, ⟨h7.moved hx hW.alike, h8.moved hx hW.alike, h9.moved hx hW.alike, h10.moved hx hW.alike, h11.moved hx hW.alike⟩, h12.moved hW.alike, h13.moved hW.alike, h14.moved hW.alike, h15.moved hW.alike⟩
theorem AX.same {s U : State} (hW : s.vm = U.vm) (h : AX s) : AX U := by
  obtain ⟨h1, h2, ⟨h3, h4, h5, h6⟩, ⟨h7, h8, h9, h10, h11⟩, h12, h13, h14, h15⟩ := h
  have hx : condN.cls ≠ "java/lang/invoke/MethodHandle" ∧ condN.cls ≠ "java/lang/invoke/VarHandle" := by decide
  have ha : s.vm.Alike U.vm := by rw [hW]; exact Vm.Alike.refl _
  exact ⟨h1.same rfl hW, h2.same rfl hW, ⟨h3.same rfl hW, h4.same rfl hW, h5.same rfl hW, h6.same rfl hW⟩, ⟨h7.moved hx ha, h8.moved hx ha, h9.moved hx ha, h10.moved hx ha, h11.moved hx ha⟩, h12.moved ha, h13.moved ha, h14.moved ha, h15.moved ha⟩
/-- a contract of a method with handlers, which returns -/
def MHa (l : Launch) (g : Gh) (y : MethodName) (cc : ByteArray) (nL : Nat) (ret : Option FieldType) (hh : List (Nat × Nat × Nat × Nat)) (ht mc ms fa : Nat) (E0 : String) (G : Wd) (As : List Value) (o : Option (Option Value)) (G1 : Wd) : Prop :=
  vy_Met l y (wsW_ y cc nL ret hh) ({ frames := ht, cells := mc, slots := ms, locals := 64 * ht }) (va_Pc As (fun U => ST g U ∧ GW g G U.heap)) (QfX g o G1) (XfX g fa E0 o G1) mc ms (fun q => gb g ≤ q)
theorem pv_startH {l : Launch} {g : Gh} {y : MethodName} {cc : ByteArray} {nL : Nat} {ret : Option FieldType} {hh : List (Nat × Nat × Nat × Nat)} {ht mc ms fa : Nat} {E0 : String} {G : Wd} {As : List Value} {o : Option (Option Value)} {G1 : Wd} (hy : plainName y.cls = true) (hn : (lg_sl As).length ≤ nL)
    (body : ∀ X : CX, xl X = l → xg X = g → xn X = nL → OK X cc y.cls ht → (xt X).sig.returnType = ret → (xc X).exceptionTable.toList = tableOf hh → (xR X).cells = mc → (xR X).slots = ms → xQ X = QX X fa E0 o G1 mc ms → V X 0 0 G (lv_args 0 As) [] 0) :
    MHa l g y cc nL ret hh ht mc ms fa E0 G As o G1 := by
  refine vy_ofWH (cc := cc) (maxL := nL) (ret := ret) (hh := hh) hy rfl ?_
  intro p e s m args below meth c s₁ B hml hv
  obtain ⟨rfl, hST, hG⟩ := hv
  have hts := atoms_spec (ws := wsW_ y cc nL ret hh) B.pre
  have htb := vy_table (x := y) B (hts _ List.mem_cons_self)
  have hts : ∀ w ∈ lw_all, w.before _ s = true := fun w h => hts w (List.mem_cons_of_mem _ h)
  have hl := lv_entry As (n := nL) hn
  rw [lg_entry_eq]
  have hb := body (p, l, e, { frames := ht, cells := mc, slots := ms, locals := 64 * ht }, s, m, As.toArray, below, meth, c, g, nL, vy_MQ below (QfX g o G1) (XfX g fa E0 o G1) As.toArray s mc ms (fun q => gb g ≤ q)) rfl rfl rfl
    ⟨B.exec, B.bytes, hml, findClass_of_methodNamed B.named, hts, hST, B.notSynchronized, rfl, rfl⟩ B.returns htb rfl rfl rfl (Nat.zero_le _) (Nat.zero_le _) s.heap [] _ hG (fun q hq => by cases hq) hl
  exact hb
theorem vm_startH {l : Launch} {g : Gh} {y : MethodName} {cc : ByteArray} {nL : Nat} {ret : Option FieldType} {hh : List (Nat × Nat × Nat × Nat)} {ht fa : Nat} {E0 : String} {G G1 : Wd} {As : List Value} {o : Option (Option Value)} (hy : plainName y.cls = true) (hn : (lg_sl As).length ≤ nL)
    (body : ∀ X : CX, xl X = l → xg X = g → xn X = nL → OK X cc y.cls ht → (xt X).sig.returnType = ret → (xc X).exceptionTable.toList = tableOf hh → RM X G G1 → xQ X = QX X fa E0 o G1 (G1.1 - G.1) (1200 * (G1.1 - G.1)) → VM X G G1 G (lv_args 0 As) [] 0) : MHa l g y cc nL ret hh ht (G1.1 - G.1) (1200 * (G1.1 - G.1)) fa E0 G As o G1 := by
  refine pv_startH hy hn fun X h1 h2 h3 h4 h5 h6 h7 h8 h9 => ?_
  have h := (body X h1 h2 h3 h4 h5 h6 ⟨h7, h8⟩ h9 (Nat.le_refl _)).2
  rw [Nat.sub_self] at h
  exact h
section W3
variable {X : CX} {cc : ByteArray} {own : String} {ht k n : Nat} {G : Wd} {L : List (Nat × Value)} {st : List Value} {pc : Nat}
/-- it threw, and this method's only handler takes it -/
theorem px_catch {T0 : List Value} {mc ms fa : Nat} {E0 name : String} {G1 : Wd} {a0 a1 a2 a3 : Nat} (hc : OK X cc own ht) (htb : (xc X).exceptionTable.toList = tableOf [(a0, a1, a2, a3)]) (hin : a0 ≤ pc ∧ pc < a1) (h0 : a3 ≠ 0) (hlink : Cond.classLink own a3 name ∈ lw_all) (hcast : va_Nw (.castable E0 name) (xs X)) (hM : ∀ (H : Heap) (locs : List Loc) (ls : Array Slot), GW (xg X) G H → lv_has ls (xn X) L → k + mc ≤ (xR X).cells → n + ms ≤ (xR X).slots → vy_Run (xp X) (xl X) (xe X) (xR X) (xs X) (xm X) (xa X) (xb X) (xt X) (xc X) H locs k n mc ms (F0 (xm X) pc ls T0) st (QfX (xg X) none G1 (xa X)) (XfX (xg X) fa E0 none G1) (fun q => gb (xg X) ≤ q)) (hcap : k + mc ≤ (xR X).cells ∧ n + ms ≤ (xR X).slots) (h : V X (k + mc) (n + ms) G1 L [.ref fa] a2) : V X k n G L T0 pc := by
  intro hk hn H locs ls hW hS hl T hT S
  rcases hM H locs ls hW hl hcap.1 hcap.2 T hT S with ⟨v, st₀, t, T', L', h0, X', hL, e1, e2, ⟨r', hr', -⟩, -⟩ | ⟨q, st₀, t, T', L', E, ce, h0', X', hL, e1, e2, ⟨-, hq, hE, hb⟩, hce, hcv, hcl, go⟩
  · cases hr'
  · subst hq; subst hE
    have hout : vy_W (xp X) (xl X) (xe X) (xR X) (xs X) (xm X) (xa X) (xb X) (xt X) (xc X) T'.heap (locs ++ L') (k + mc) (n + ms) (xQ X) (F0 (xm X) pc ls st) q := by
      refine vy_catch (E := E) (ce := ce) (name := name) hc.2.2.2.1 [] ⟨a0, a1, a2, a3⟩ [] (by rw [htb]; rfl) (fun z hz => by cases hz) (by simp [covers, hin.1, hin.2]) h0 (hc.2.2.2.2.1 _ hlink) (va_Nw.use rfl hcast) (by rw [e1]; exact hce) hcv hcl ?_
      exact h hcap.1 hcap.2 T'.heap (locs ++ L') ls (by rw [e1]; exact hb) (fun q hq => by
        rcases List.mem_append.mp hq with h | h
        · exact hS q h
        · exact hL q h) hl
    obtain ⟨t2, a1, b1⟩ := hout T' rfl X'
    exact ⟨t2, go.trans a1, b1⟩
/-- an abstract method, by the receiver's class -/
theorem pv_callA {C owner : String} {x y : MethodName} {bytes : ByteArray} {maxL hy index nA mc ms kd ci a ie b : Nat} {ret : Option FieldType} {As T0 : List Value} {r : Option Value} {G1 : Wd} {rb : Rec} {fs : List Value} {TT : u_T} {NN : Nat} (hc : OK X cc own ht) (hM : MTa (xl X) (xg X) y bytes maxL ret hy mc ms G (.ref b :: As) r G1) (hG : G.2 a = some (kd, rb)) (he : (gE (xg X) kd a rb)[ie]? = some (b, .inr (ci, fs))) (hcl : (gcl (xg X))[ci]? = some (C, TT, NN)) (hw : GoodIn lw_all (va_wsU own index C owner x y (ws_ y bytes maxL ret))) (hz : Cond.declares ⟨owner, x.name, x.desc⟩ ∈ lw_tbl) (hd : owner ≠ "java/lang/invoke/MethodHandle" ∧ owner ≠ "java/lang/invoke/VarHandle" ∧ (parseMethodDescriptor x.desc).map (fun d => d.parameters.length) = some nA) (hh : hy < ht ∧ maxL ≤ 45) (hn : As.length = nA) (hs : T0 = As.reverse ++ .ref b :: st) (hst : (st.map fun v => v.category).sum ≤ 8) (d : decode cc pc = .ok (.invokevirtual index, 3)) (hcap : k + mc ≤ (xR X).cells ∧ n + ms ≤ (xR X).slots) (h : V X (k + mc) (n + ms) G1 L (r.toList ++ st) (pc + 3)) : V X k n G L T0 pc := by
  refine pv_back rfl (fun H locs ls hW hl h1 h2 => ?_) hcap h
  have cw := va_cwA (R := xR X) nA hc.2.2.2.2.1 hw rfl (rm := { frames := hy, cells := mc, slots := ms, locals := 64 * hy }) rfl rfl (hc.2.2.2.2.2.1.2.1 _ hz rfl) hd ⟨by rw [hc.2.2.2.2.2.2.2.1]; exact hh.1, by rw [hc.2.2.2.2.2.2.2.2]; show 8 + (maxL + 11) + 64 * hy ≤ 64 * ht; omega⟩
  exact va_runU (As := As) (rest := st) ⟨hc.1, hc.2.1, hc.2.2.1, hc.2.2.2.1, hc.2.2.2.2.1⟩ hM cw ⟨blindPc _ _ _, va_recv hc.2.2.2.2.2.1.1 (hW.P hG he) (q0 := 0) hcl rfl, fun U hU hWm => ⟨rfl, ST.warm hWm hc.2.2.2.2.2.1, by rw [hU]; exact hW⟩⟩ rfl hn hl.1 hs (lv_room hst) d ⟨h1, h2⟩
theorem pv_back5 {T0 : List Value} {g0 : Gh} {mc ms : Nat} {r : Option Value} {G1 : Wd} (hg : xg X = g0) (hM : ∀ (H : Heap) (locs : List Loc) (ls : Array Slot), GW g0 G H → lv_has ls (xn X) L → k + mc ≤ (xR X).cells → n + ms ≤ (xR X).slots → va_Run5 (xp X) (xl X) (xe X) (xR X) (xs X) (xm X) (xa X) (xb X) (xt X) (xc X) H locs k n mc ms (F0 (xm X) pc ls T0) st (Qf g0 r G1 (xa X)) (fun q => gb g0 ≤ q)) (hcap : k + mc ≤ (xR X).cells ∧ n + ms ≤ (xR X).slots) (h : V X (k + mc) (n + ms) G1 L (r.toList ++ st) (pc + 5)) : V X k n G L T0 pc := by
  subst hg
  intro hk hn H locs ls hW hS hl T hT S
  obtain ⟨v, st₀, t, T', L', h0, X', hL, e1, e2, ⟨hv, hb⟩, go⟩ := hM H locs ls hW hl hcap.1 hcap.2 T hT S
  cases hv
  obtain ⟨t2, a1, b1⟩ := h hcap.1 hcap.2 T'.heap (locs ++ L') ls (by rw [e1]; exact hb) (fun q hq => by
      rcases List.mem_append.mp hq with h | h
      · exact hS q h
      · exact hL q h) hl T' rfl X'
  exact ⟨t2, go t2 a1, b1⟩
/-- an interface's method, by the receiver's class -/
theorem pv_callF {C : String} {x y : MethodName} {bytes : ByteArray} {maxL hy index count nA mc ms kd ci a ie b : Nat} {ret : Option FieldType} {As T0 : List Value} {r : Option Value} {G1 : Wd} {rb : Rec} {fs : List Value} {TT : u_T} {NN : Nat} (hc : OK X cc own ht) (hM : MTa (xl X) (xg X) y bytes maxL ret hy mc ms G (.ref b :: As) r G1) (hG : G.2 a = some (kd, rb)) (he : (gE (xg X) kd a rb)[ie]? = some (b, .inr (ci, fs))) (hcl : (gcl (xg X))[ci]? = some (C, TT, NN)) (hw : GoodIn lw_all (va_wsF own index C x y (ws_ y bytes maxL ret))) (hF : va_Fw C x y (xs X)) (hd : x.cls ≠ "java/lang/invoke/MethodHandle" ∧ x.cls ≠ "java/lang/invoke/VarHandle" ∧ (parseMethodDescriptor x.desc).map (fun d => d.parameters.length) = some nA) (hh : hy < ht ∧ maxL ≤ 45) (hn : As.length = nA) (hs : T0 = As.reverse ++ .ref b :: st) (hst : (st.map fun v => v.category).sum ≤ 8) (d : decode cc pc = .ok (.invokeinterface index count, 5)) (hcap : k + mc ≤ (xR X).cells ∧ n + ms ≤ (xR X).slots) (h : V X (k + mc) (n + ms) G1 L (r.toList ++ st) (pc + 5)) : V X k n G L T0 pc := by
  refine pv_back5 rfl (fun H locs ls hW hl h1 h2 => ?_) hcap h
  have cw := va_cwF (R := xR X) nA hc.2.2.2.2.1 hw rfl (rm := { frames := hy, cells := mc, slots := ms, locals := 64 * hy }) rfl rfl hF hd ⟨by rw [hc.2.2.2.2.2.2.2.1]; exact hh.1, by rw [hc.2.2.2.2.2.2.2.2]; show 8 + (maxL + 11) + 64 * hy ≤ 64 * ht; omega⟩
  exact va_runF (As := As) (rest := st) (hc.2.2.2.2.2.1.1.1 ci _ hcl).2 ⟨hc.1, hc.2.1, hc.2.2.1, hc.2.2.2.1, hc.2.2.2.2.1⟩ hM cw ⟨blindPc _ _ _, va_recv hc.2.2.2.2.2.1.1 (hW.P hG he) (q0 := 0) hcl rfl, fun U hU hWm => ⟨rfl, ST.warm hWm hc.2.2.2.2.2.1, by rw [hU]; exact hW⟩⟩ rfl hn hl.1 hs (lv_room hst) d ⟨h1, h2⟩
end W3
/-- a static method named through a class that inherits it: the first call resolves class and method, and goes on as from the state where both are resolved -/
theorem vs_coldU {Q : Unit → Pre} {E : CtlPost} {e : Env} {b : Bool} {acts : List Action} {t t0 : State} {f : JFrame} {index ci nt cn : Nat} {mm : MethodId} {dk ck : Class} {cf : ClassFile} {nm ds : String} (htop : t.topJava?.isSome) (hp : e.platform.polymorphicOnlyByInvokevirtual = true) (hW : t0.WarmedH t.vm) (hE : t0.MethodEntryUp e t.vm f.method.cls index cn mm ci) (hdk : t0.vm.classes[f.method.cls]? = some dk) (hcf : dk.cf = some cf) (hcp : cf.constantPool[index]? = some (.methodref ci nt)) (hnt : cf.constantPool.nameAndType? nt = some (nm, ds)) (hck : t0.vm.classes[cn]? = some ck) (hno : (ck.methods.any fun x => x.name == nm && !x.isStatic && signaturePolymorphic ck x) = false) :
    Sem.wp (Op.invokestatic.sem index) Q E e b acts (t.setTop f) ↔ Sem.wp (Op.invokestatic.sem index) Q E e b acts ((t.setVm (t.vm.calledUp f.method.cls ci index cn mm)).setTop f) := by
  obtain ⟨g1, g2, g3, g4⟩ := hE.classFirst
  have hcp' : cf.constantPool[index]? = some (if false then .interfaceMethodref ci nt else .methodref ci nt) := hcp
  obtain ⟨ka, hka, ea⟩ := hW.alike.2.2 _ _ hdk
  obtain ⟨kb, hkb, eb⟩ := hE.warmed.alike.2.2 _ _ hdk
  obtain ⟨ca, hca, fa⟩ := g3.alike.2.2 _ _ hck
  obtain ⟨cb, hcb, fb⟩ := hE.warmed.alike.2.2 _ _ hck
  have na : (ca.methods.any fun x => x.name == nm && !x.isStatic && signaturePolymorphic ca x) = false := by rw [fa]; exact hno
  have nb : (cb.methods.any fun x => x.name == nm && !x.isStatic && signaturePolymorphic cb x) = false := by rw [fb]; exact hno
  have ra := memberRef_ask_via (e := e) hka (by rw [ea]; exact hcf) hcp' hnt
  have rb := memberRef_ask_via (e := e) hkb (by rw [eb]; exact hcf) hcp' hnt
  have t1 : (t.setVm (t.vm.noted f.method.cls ci (.cls cn))).topJava?.isSome := htop
  have t2 : (t.setVm (t.vm.calledUp f.method.cls ci index cn mm)).topJava?.isSome := htop
  have k1 : ∀ {Q' : ClassId → Pre} {d' : Bool} {acts' : List Action}, Sem.wp (Jvm.resolveClassAt ci) Q' E e d' acts' (t.setTop f) ↔ Q' cn d' acts' ((t.setVm (t.vm.noted f.method.cls ci (.cls cn))).setTop f) := W.resolveClassAt_links (t := t.setTop f) (State.method?_setTop f htop) g1
  have k2 : ∀ {Q' : MethodId → Pre} {d' : Bool} {acts' : List Action}, Sem.wp (Jvm.resolveMethodAt index) Q' E e d' acts' ((t.setVm (t.vm.noted f.method.cls ci (.cls cn))).setTop f) ↔ Q' mm d' acts' ((t.setVm (t.vm.calledUp f.method.cls ci index cn mm)).setTop f) := W.resolveMethodAt_links (t := (t.setVm (t.vm.noted f.method.cls ci (.cls cn))).setTop f) (State.method?_setTop f t1) g4
  simp [Op.invokestatic.sem, hp, Seam.memberRefOf, State.method?_setTop f htop, State.method?_setTop f t2, ra, rb, k1, k2, hca, hcb, na, nb, W.resolveClassAt_ready (s := (t.setVm (t.vm.calledUp f.method.cls ci index cn mm)).setTop f) (State.method?_setTop f t2) hE.classReady, W.resolveMethodAt_ready (s := (t.setVm (t.vm.calledUp f.method.cls ci index cn mm)).setTop f) (State.method?_setTop f t2) hE.ready, -Array.any_eq_true]
section VSU
variable {p : Program} {l : Launch} {e : Env} {R : Room} {s : State} {m : MethodId} {args : Array Value} {below : List Frame} {meth : Method} {c : Code} {T : State} {H : Heap} {locs : List Loc} {cells slots : Nat}
/-- a static method, named through a class that inherits it -/
theorem vs_callSU (X : Stand p l e R s m args below meth c T locs cells slots) (hexec : p.tables.exec = Jvm.exec) {own : String} {index : Nat} {x y : MethodName} {bytes : ByteArray} {maxL : Nat} {ret : Option FieldType}
    (hown : s.vm.findClass own = some m.cls) (hlink : (Cond.methodLink own index x).before args s = true) (hsame : (Cond.sameMethod x.cls y.cls x.name x.desc).before args s = true) (hxy : x.name = y.name ∧ x.desc = y.desc) (hstat : (Cond.static y).before args s = true) (hinit : (Cond.initialized y.cls).before args s = true)
    (hcode : (Cond.code y bytes maxL ret).before args s = true) (hy : y.cls ≠ "java/lang/invoke/MethodHandle" ∧ y.cls ≠ "java/lang/invoke/VarHandle")
    {W : Nat} {Pre : Pt → Array Value → Prop} {Post : Pt → Array Value → Option Value → Pt → Prop} (hK : Back l R p e below s args y 3 W Pre Post)
    {g : JFrame} (hg : g.method = m) (hsize : g.locals.size = c.maxLocals) {argsL rest : List Value} (hlen : ∀ sig, parseMethodDescriptor y.desc = some sig → argsL.length = sig.parameters.length)
    (hstack : g.stack = argsL.reverse ++ rest) (hW : 2 * g.monitorRoom + (rest.map fun v => v.category).sum ≤ W) (hdg : decode c.code g.pc = .ok (.invokestatic index, 3))
    (hpre : ∀ vm₁, s.WarmedH vm₁ → Pre ⟨T.setVm vm₁, locs, cells, slots⟩ argsL.toArray) :
    ∃ (v : Option Value) (vm₁ : Vm) (B : Pt), s.WarmedH vm₁ ∧ Stand p l e R s m args below meth c B.U B.locs B.cells B.slots ∧ Post ⟨T.setVm vm₁, locs, cells, slots⟩ argsL.toArray v B ∧
      ∀ target, Steps p.tables e below (B.U.setTop { g with pc := g.pc + 3, stack := v.toList ++ rest }) target → Steps p.tables e below (T.setTop g) target := by
  obtain ⟨mk, hnamed⟩ := Cond.code_named hcode
  obtain ⟨methM, cM, hmethM, -, -, -, -, -, -, hsigM⟩ := Cond.code_spec hnamed hcode
  have hstatic : methM.isStatic = true := Cond.static_spec hnamed hmethM hstat
  obtain ⟨kP, hkP, hnP⟩ := className_of_methodNamed hnamed
  have hinitP : kP.init = .initialized := Cond.initialized_spec (findClass_of_methodNamed hnamed) hkP hinit
  have hpl : e.platform.magicAccessors = ({} : Platform).magicAccessors := by rw [X.admits.platform]
  have hpv : e.platform.polymorphicOnlyByInvokevirtual = true := by rw [X.admits.platform]
  obtain ⟨cn, ck, r1, hcn, hck, hni, hf, hn1⟩ := Cond.sameMethod_found hsame
  rw [hxy.1, hxy.2] at hn1
  cases hnamed.symm.trans hn1
  obtain ⟨ci, hlk, hright⟩ := Cond.methodLink_specUp hown hcn hck hni hf hlink e.platform hpl (by rw [X.admits.platform])
  have hE : s.MethodEntryUp e T.vm m.cls index cn mk ci := State.methodEntryUp X.warmed hlk hright
  obtain ⟨dk, cfile, nt, mname, mdesc, ck', _, _, hd, hcf, hcp, hnt, -, -, hck', -, hnopoly, -⟩ := hlk.here
  cases hck.symm.trans hck'
  have alike := hE.warmed.alike
  obtain ⟨d2, hd2, ed2⟩ := alike.2.2 _ _ hd
  obtain ⟨k2, hk2, ek2⟩ := alike.2.2 _ _ hkP
  obtain ⟨c2, hc2, ec2⟩ := alike.2.2 _ _ hck
  have hnone : (ck.methods.any fun y => y.name == mname && !y.isStatic && signaturePolymorphic ck y) = false := by simp [hnopoly]
  have hnone2 : (c2.methods.any fun y => y.name == mname && !y.isStatic && signaturePolymorphic c2 y) = false := by rw [ec2]; exact hnone
  have hcp' : cfile.constantPool[index]? = some (if false then .interfaceMethodref ci nt else .methodref ci nt) := hcp
  have X₁ : Stand p l e R s m args below meth c (T.setVm (T.vm.calledUp m.cls ci index cn mk)) locs cells slots := X.noted hE.warmed
  obtain ⟨v, B, X', hpost, hsteps⟩ := hK m meth c ⟨T.setVm (T.vm.calledUp m.cls ci index cn mk), locs, cells, slots⟩ { g with stack := rest } (.invokestatic index) mk argsL.toArray X₁ hg hsize hdg hW (X₁.named hnamed) (hpre _ X₁.warmed)
  refine ⟨v, T.vm.calledUp m.cls ci index cn mk, B, X₁.warmed, X', hpost, fun target h => ?_⟩
  have hgo : ∀ acts, Steps p.tables e below (doInvoke e ((T.setVm (T.vm.calledUp m.cls ci index cn mk)).setTop { g with stack := rest }) acts mk argsL.toArray).1 target := fun acts => by rw [doInvoke_state]; exact hsteps.trans h
  subst hg
  jvm_step X.here [hexec, hdg, vs_coldU (e := e) (t := T) (t0 := s) (f := g) X.here.top hpv X.warmed hE hd hcf hcp hnt hck hnone,
    Op.invokestatic.wp_ready (e := e) (s := T.setVm (T.vm.calledUp g.method.cls ci index cn mk)) (k := k2) (meth := methM) (m := mk) (args := argsL) (rest := rest) (f := g)
      X.here.top ⟨ci, mname, mdesc, false, cn, c2, memberRef_ask_via (e := e) hd2 (by rw [ed2]; exact hcf) hcp' hnt, hE.classReady, hc2, hnone2⟩ hE.ready hk2
      (by show (T.vm.calledUp g.method.cls ci index cn mk).method? mk = some methM; rw [alike.method?]; exact hmethM)
      (by rw [ek2]; show signaturePolymorphic kP methM = false; simp [signaturePolymorphic, hnP, hy.1, hy.2]) hstatic (by rw [ek2]; exact hinitP) (hlen _ hsigM) hstack]
  exact fun acts => hgo _
theorem vs_runSU {x y : MethodName} {bytes cc : ByteArray} {maxL nL mc ms n index : Nat} {ret : Option FieldType} {ws : List Cond} {rm : Room} {Pc : Array Value → State → Prop} {Qc : Array Value → State → Outcome → State → Prop} {free : Addr → Prop} {Ts : List Cond} {own : String} {As rest : List Value} {g : JFrame}
    (S : CallFix p m c cc nL s args Ts own) (hM : Met l y ws rm Pc Qc mc ms free) (hrc : rm.cells = mc) (hrs : rm.slots = ms) (hfr : rm.frames + 1 ≤ R.frames) (hlo : 8 + (maxL + 11) + rm.locals ≤ R.locals) (hws : ∀ w ∈ ws, ∀ (a' : Array Value) (U : State), s.WarmedH U.vm → w.before a' U = true) (hcw : Cond.code y bytes maxL ret ∈ ws) (hcode : (Cond.code y bytes maxL ret).before args s = true) (hini : (Cond.initialized y.cls).before args s = true) (hy : y.cls ≠ "java/lang/invoke/MethodHandle" ∧ y.cls ≠ "java/lang/invoke/VarHandle") (hlen : ∀ sig, parseMethodDescriptor y.desc = some sig → n = sig.parameters.length) (hl : (Cond.methodLink own index x).before args s = true) (hsame : (Cond.sameMethod x.cls y.cls x.name x.desc).before args s = true) (hxy : x.name = y.name ∧ x.desc = y.desc) (hx1 : (Cond.static y).before args s = true) (hp : PreS s H Pc As)
    (hg : g.method = m) (hn : As.length = n) (hsize : g.locals.size = nL) (hstack : g.stack = As.reverse ++ rest) (hW : 2 * g.monitorRoom + (rest.map fun v => v.category).sum ≤ 8) (hdg : decode cc g.pc = .ok (.invokestatic index, 3)) (hf : cells + mc ≤ R.cells ∧ slots + ms ≤ R.slots) :
    va_Run p l e R s m args below meth c H locs cells slots mc ms g rest (Qc As.toArray) (free) := by
  have hK : Back l R p e below s args y 3 8 (PreOf R mc ms Pc) (PostOf Qc mc ms free) := back_of (bytes := bytes) (maxL := maxL) (ret := ret) hM hp.1 hrc hrs hfr hlo hws hcw (fun a' U hW => word_at hW (Or.inl (by first | rfl | simp [Cond.onTables, Cond.keeps, Cond.steady])) hini)
  obtain ⟨hx, hb, hml, ho, -⟩ := S
  have hPc := hp.2
  intro T hT X
  obtain ⟨v, vm₁, ⟨U', l2, c2, s2⟩, hW₁, X', ⟨g', mk, t, L, e1, e2, hq, h1, hL, h2, h3⟩, st⟩ := vs_callSU X hx (bytes := bytes) (maxL := maxL) (ret := ret) ho hl hsame hxy hx1 hini hcode hy hK hg (hsize.trans hml.symm) (argsL := As) (rest := rest) (fun sig h => hn.trans (hlen sig h)) hstack hW (by rw [hb]; exact hdg)
    (fun vm₁ hW₁ => ⟨hf.1, hf.2, hPc (T.setVm vm₁) hT hW₁⟩)
  dsimp only [Pt.U, Pt.locs, Pt.cells, Pt.slots] at X' e1 e2 h1 h2 h3 st
  subst h1; subst h2; subst h3
  exact ⟨v, (T.setVm vm₁).calling g' mk As.toArray, t, U', L, hT, X', hL, e1, e2, hq, st⟩
end VSU
section W4
variable {X : CX} {cc : ByteArray} {own : String} {ht k n : Nat} {G : Wd} {L : List (Nat × Value)} {st : List Value} {pc : Nat}
theorem pv_callSU {x y : MethodName} {bytes : ByteArray} {maxL hy index nA mc ms : Nat} {ret : Option FieldType} {As T0 : List Value} {r : Option Value} {G1 : Wd} (hc : OK X cc own ht) (hM : MTa (xl X) (xg X) y bytes maxL ret hy mc ms G As r G1) (hl : Cond.methodLink own index x ∈ lw_all) (hsame : Cond.sameMethod x.cls y.cls x.name x.desc ∈ lw_all) (hxy : x.name = y.name ∧ x.desc = y.desc) (hst0 : Cond.static y ∈ lw_all) (hini : Cond.initialized y.cls ∈ lw_all) (hcode : Cond.code y bytes maxL ret ∈ lw_all) (hd : y.cls ≠ "java/lang/invoke/MethodHandle" ∧ y.cls ≠ "java/lang/invoke/VarHandle" ∧ (parseMethodDescriptor y.desc).map (fun d => d.parameters.length) = some nA) (hh : hy < ht ∧ maxL ≤ 45) (hn : As.length = nA) (hs : T0 = As.reverse ++ st) (hst : (st.map fun v => v.category).sum ≤ 8) (d : decode cc pc = .ok (.invokestatic index, 3)) (hcap : k + mc ≤ (xR X).cells ∧ n + ms ≤ (xR X).slots) (h : V X (k + mc) (n + ms) G1 L (r.toList ++ st) (pc + 3)) : V X k n G L T0 pc := by
  refine pv_back rfl (fun H locs ls hW hl' h1 h2 => ?_) hcap h
  have hts := hc.2.2.2.2.1
  exact vs_runSU (As := As) (rest := st) (rm := { frames := hy, cells := mc, slots := ms, locals := 64 * hy }) (maxL := maxL) (n := nA) (R := xR X) ⟨hc.1, hc.2.1, hc.2.2.1, hc.2.2.2.1, hts⟩ hM rfl rfl (by rw [hc.2.2.2.2.2.2.2.1]; exact hh.1) (by rw [hc.2.2.2.2.2.2.2.2]; show 8 + (maxL + 11) + 64 * hy ≤ 64 * ht; omega) (pay_in hts (lw_meth hcode)) List.mem_cons_self (hts _ hcode) (hts _ hini) ⟨hd.1, hd.2.1⟩ (fun sig h => by have h2 := hd.2.2; rw [h] at h2; exact (Option.some.inj h2).symm) (hts _ hl) (hts _ hsame) hxy (hts _ hst0) ⟨blindPc _ _ _, fun U hU hWm => ⟨rfl, ST.warm hWm hc.2.2.2.2.2.1, by rw [hU]; exact hW⟩⟩ rfl hn hl'.1 hs (lv_room hst) d ⟨h1, h2⟩
end W4
theorem vm_T0 {X : CX} {G0 Gf G : Wd} {L : List (Nat × Value)} {st : List Value} {pc : Nat} (hR : RM X G0 Gf) (hz : Gf.1 = G.1) (row : ((G.1 - G0.1) + 0 ≤ (xR X).cells ∧ 1200 * (G.1 - G0.1) + 0 ≤ (xR X).slots) → (G.1 - G0.1) + 0 ≤ Gf.1 - G0.1 → 1200 * (G.1 - G0.1) + 0 ≤ 1200 * (Gf.1 - G0.1) → V X (G.1 - G0.1) (1200 * (G.1 - G0.1)) G L st pc) : VM X G0 Gf G L st pc := vm_T hR (Nat.le_of_eq hz.symm) (by omega) (by omega) row
