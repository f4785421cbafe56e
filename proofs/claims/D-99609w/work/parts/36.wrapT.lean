/-! the law's plant and act, where a NoSuchElementException is thrown and caught (written by gen/wrapT.py) -/
set_option maxRecDepth 100000
def QN (g : Gh) (G : Wd) (v : Int32) : Array Value → State → Outcome → State → Prop := fun _ _ o t => o = .returned (some (.int v)) ∧ ∃ n', G.1 ≤ n' ∧ GW g (n', G.2) t.heap
/-- a contract of a method with handlers that answers v and changes nothing but the heap's size -/
def MNh (l : Launch) (g : Gh) (y : MethodName) (cc : ByteArray) (nL : Nat) (ret : Option FieldType) (hh : List (Nat × Nat × Nat × Nat)) (ht : Nat) (G : Wd) (As : List Value) (v : Int32) : Prop :=
  vy_Met l y (wsW_ y cc nL ret hh) ({ frames := ht, cells := 1, slots := 6, locals := 64 * ht }) (va_Pc As (fun U => ST g U ∧ GW g G U.heap)) (QN g G v) (fun _ _ _ _ => False) 1 6 (fun q => gb g ≤ q)
theorem pv_startN {l : Launch} {g : Gh} {y : MethodName} {cc : ByteArray} {nL : Nat} {ret : Option FieldType} {hh : List (Nat × Nat × Nat × Nat)} {ht : Nat} {G : Wd} {As : List Value} {v : Int32} (hy : plainName y.cls = true) (hn : (lg_sl As).length ≤ nL)
    (body : ∀ X : CX, xl X = l → xg X = g → xn X = nL → OK X cc y.cls ht → (xt X).sig.returnType = ret → (xc X).exceptionTable.toList = tableOf hh → (xR X).cells = 1 → (xR X).slots = 6 → xQ X = vy_MQ (xb X) (QN (xg X) G v) (fun _ _ _ _ => False) (xa X) (xs X) 1 6 (fun q => gb (xg X) ≤ q) → V X 0 0 G (lv_args 0 As) [] 0) :
    MNh l g y cc nL ret hh ht G As v := by
  refine vy_ofWH (cc := cc) (maxL := nL) (ret := ret) (hh := hh) hy rfl ?_
  intro p e s m args below meth c s₁ B hml hv
  obtain ⟨rfl, hST, hG⟩ := hv
  have hts := atoms_spec (ws := wsW_ y cc nL ret hh) B.pre
  have htb := vy_table (x := y) B (hts _ List.mem_cons_self)
  have hts : ∀ w ∈ lw_all, w.before _ s = true := fun w h => hts w (List.mem_cons_of_mem _ h)
  have hl := lv_entry As (n := nL) hn
  rw [lg_entry_eq]
  exact body (p, l, e, { frames := ht, cells := 1, slots := 6, locals := 64 * ht }, s, m, As.toArray, below, meth, c, g, nL, vy_MQ below (QN g G v) (fun _ _ _ _ => False) As.toArray s 1 6 (fun q => gb g ≤ q)) rfl rfl rfl
    ⟨B.exec, B.bytes, hml, findClass_of_methodNamed B.named, hts, hST, B.notSynchronized, rfl, rfl⟩ B.returns htb rfl rfl rfl (Nat.zero_le _) (Nat.zero_le _) s.heap [] _ hG (fun q hq => by cases hq) hl
theorem nt_iret {X : CX} {cc : ByteArray} {own : String} {ht n' : Nat} {G : Wd} {L : List (Nat × Value)} {pc : Nat} {v : Int32} (hc : OK X cc own ht) (hr : (xt X).sig.returnType = some .int) (hn' : G.1 ≤ n') (hQ : xQ X = vy_MQ (xb X) (QN (xg X) G v) (fun _ _ _ _ => False) (xa X) (xs X) 1 6 (fun q => gb (xg X) ≤ q)) (d : decode cc pc = .ok (.ireturn, 1)) : V X 1 6 (n', G.2) L [.int v] pc := by
  intro hk hn H locs ls hW hS hl
  rw [hQ]
  exact vy_ret (W.iret hc.1 hc.2.1 hr (fun t ht hW1 => ⟨rfl, n', hn', by rw [ht]; exact hW⟩) hS d hc.2.2.2.2.2.2.1)
theorem pv_astoreN {X : CX} {cc : ByteArray} {own : String} {ht k n : Nat} {G : Wd} {L L' : List (Nat × Value)} {st : List Value} {pc i x N : Nat} (hc : OK X cc own ht) (d : decode cc pc = .ok (.astore i, 2)) (hN : xn X = N) (hiN : i < N) (hL : (i, Value.ref x) :: L.filter (fun q => !(q.1 == i) && !(q.1 + 1 == i && q.2.category == 2)) = L') (h : V X k n G L' st (pc + 2)) : V X k n G L (.ref x :: st) pc := pv_astore hc d hN hiN hL h
/-- the callee threw; the only handler takes it -/
theorem nt_catch {X : CX} {cc : ByteArray} {own C : String} {y : MethodName} {bytes : ByteArray} {maxL hy index nA kd ci a ie b ht : Nat} {ret : Option FieldType} {As T0 st : List Value} {G : Wd} {rb : Rec} {fs : List Value} {TT : u_T} {NN : Nat} {L : List (Nat × Value)} {pc a0 a1 a2 a3 : Nat} (hc : OK X cc own ht) (htb : (xc X).exceptionTable.toList = tableOf [(a0, a1, a2, a3)]) (hin : a0 ≤ pc ∧ pc < a1) (h0 : a3 ≠ 0) (hlink : Cond.classLink own a3 "java/util/NoSuchElementException" ∈ lw_all) (hcast : va_Nw (.castable "java/util/NoSuchElementException" "java/util/NoSuchElementException") (xs X)) (hC : (xR X).cells = 1) (hD : (xR X).slots = 6) (hM : MNt (xl X) (xg X) y bytes maxL ret hy G (.ref b :: As)) (hG : G.2 a = some (kd, rb)) (he : (gE (xg X) kd a rb)[ie]? = some (b, .inr (ci, fs))) (hcl : (gcl (xg X))[ci]? = some (C, TT, NN)) (hw : GoodIn lw_all (wsV own index C y (ws_ y bytes maxL ret))) (hd : y.cls = C ∧ y.cls ≠ "java/lang/invoke/MethodHandle" ∧ y.cls ≠ "java/lang/invoke/VarHandle" ∧ (parseMethodDescriptor y.desc).map (fun d => d.parameters.length) = some nA) (hh : hy < ht ∧ maxL ≤ 45) (hn : As.length = nA) (hs : T0 = As.reverse ++ .ref b :: st) (hst : (st.map fun v => v.category).sum ≤ 8) (d : decode cc pc = .ok (.invokevirtual index, 3)) (h : ∀ n' q, G.1 ≤ n' → V X 1 6 (n', G.2) L [.ref q] a2) : V X 0 0 G L T0 pc := by
  intro _ _ H locs ls hW hS hl T hT S
  have cw := cwV (R := xR X) nA hc.2.2.2.2.1 hw rfl (rm := { frames := hy, cells := 1, slots := 6, locals := 64 * hy }) rfl rfl hd ⟨by rw [hc.2.2.2.2.2.2.2.1]; exact hh.1, by rw [hc.2.2.2.2.2.2.2.2]; show 8 + (maxL + 11) + 64 * hy ≤ 64 * ht; omega⟩
  have run := vy_runV (meth := xt X) (below := xb X) (e := xe X) (As := As) (rest := st) (H := H) (locs := locs) (cells := 0) (slots := 0) (g := F0 (xm X) pc ls T0) (nL := xn X) ⟨hc.1, hc.2.1, hc.2.2.1, hc.2.2.2.1, hc.2.2.2.2.1⟩ hM cw ⟨blindPc _ _ _, va_recv hc.2.2.2.2.2.1.1 (hW.P hG he) (q0 := 0) hcl rfl, fun U hU hWm => ⟨rfl, ST.warm hWm hc.2.2.2.2.2.1, by rw [hU]; exact hW⟩⟩ rfl hn hl.1 hs (lv_room hst) d ⟨by rw [hC]; exact Nat.le_refl _, by rw [hD]; exact Nat.le_refl _⟩
  rcases run T hT S with ⟨v, st₀, t, T', L', h0', X', hL, e1, e2, hF, -⟩ | ⟨q, st₀, t, T', L', E, ce, h0', X', hL, e1, e2, ⟨hE, n', hn', hb⟩, hce, hcv, hcl', go⟩
  · exact hF.elim
  · subst hE
    have hout : vy_W (xp X) (xl X) (xe X) (xR X) (xs X) (xm X) (xa X) (xb X) (xt X) (xc X) T'.heap (locs ++ L') (0 + 1) (0 + 6) (xQ X) (F0 (xm X) pc ls st) q := by
      refine vy_catch (ce := ce) (name := "java/util/NoSuchElementException") hc.2.2.2.1 [] ⟨a0, a1, a2, a3⟩ [] (by rw [htb]; rfl) (fun z hz => by cases hz) (by simp [covers, hin.1, hin.2]) h0 (hc.2.2.2.2.1 _ hlink) (va_Nw.use rfl hcast) (by rw [e1]; exact hce) hcv hcl' ?_
      exact h n' q hn' (by rw [hC]; exact Nat.le_refl _) (by rw [hD]; exact Nat.le_refl _) T'.heap (locs ++ L') ls (by rw [e1]; exact hb) (fun q hq => by
        rcases List.mem_append.mp hq with h | h
        · exact hS q h
        · exact hL q h) hl
    obtain ⟨t2, a1, b1⟩ := hout T' rfl X'
    exact ⟨t2, go.trans a1, b1⟩
theorem x0_plantT_ok {l : Launch} {g : Gh} (hW : OKW g) (hX1 : OKX1 g) (hX3 : OKX3 g) (hX4 : OKX4 g) {G : Wd} {a : Nat} {x1 x2 : Int32} {x3 : Nat} {s : Rec} (hlt : l.stackTraces = false) (hZ : OKZ g) (hG : G.2 a = some (0, s)) (hf : x1_plantT G a x1 x2 = some ()) : MNh l g yX0_plant cX0_plant 5 (some .int) [(0, 10, 13, 13)] 20 G [.ref a, .int x1, .int x2, .ref x3] 1 := by
  refine pv_startN (by decide) (Nat.le_of_ble_eq_true rfl) ?_
  intro X hl hg hN hc hr htb hC hD hQ
  subst hl; subst hg
  show V X 0 0 _ [(0, .ref a), (1, .int x1), (2, .int x2), (3, .ref x3)] [] 0
  refine pv_aload_n 3 hc dX0_plant_0 rfl rfl ?_
  refine pv_iconst (0 : Int32) hc dX0_plant_1 rfl ?_
  refine pv_aload_n 0 hc dX0_plant_2 rfl rfl ?_
  refine pv_iload_n 1 hc dX0_plant_3 rfl rfl ?_
  refine pv_iload_n 2 hc dX0_plant_4 rfl rfl ?_
  refine nt_catch (nA := 2) (As := [.int x1, .int x2]) (st := [.int 0, .ref x3]) hc htb ⟨by decide, by decide⟩ (by decide) q1501 (wax hW _ hc.2.2.2.2.2.1.2.2.1).2.1 hC hD (x1_plantT_ok hW hX1 hX3 hX4 hlt hZ hf) hG (o_X1 hX1) (xk0 hX1) (lw_V q1502 q1503 q1504 q109 q1505) (by decide +kernel) ⟨by decide, by decide⟩ rfl rfl (Nat.le_of_ble_eq_true rfl) dX0_plant_5 (fun n' q hn' => ?_)
  refine pv_astore (L' := [(4, .ref q), (0, .ref a), (1, .int x1), (2, .int x2), (3, .ref x3)]) hc dX0_plant_13 hN (by decide) rfl ?_
  refine pv_iconst (1 : Int32) hc dX0_plant_15 rfl ?_
  exact nt_iret hc hr hn' hQ dX0_plant_16
theorem x0_actT_ok {l : Launch} {g : Gh} (hW : OKW g) (hX1 : OKX1 g) (hX3 : OKX3 g) (hX4 : OKX4 g) {G : Wd} {a : Nat} {x1 x2 : Int32} {x3 : Nat} {s : Rec} (hlt : l.stackTraces = false) (hZ : OKZ g) (hG : G.2 a = some (0, s)) (hf : x1_actT G a x1 x2 = some ()) : MNh l g yX0_act cX0_act 5 (some .int) [(0, 10, 13, 13)] 20 G [.ref a, .int x1, .int x2, .ref x3] 1 := by
  refine pv_startN (by decide) (Nat.le_of_ble_eq_true rfl) ?_
  intro X hl hg hN hc hr htb hC hD hQ
  subst hl; subst hg
  show V X 0 0 _ [(0, .ref a), (1, .int x1), (2, .int x2), (3, .ref x3)] [] 0
  refine pv_aload_n 3 hc dX0_act_0 rfl rfl ?_
  refine pv_iconst (0 : Int32) hc dX0_act_1 rfl ?_
  refine pv_aload_n 0 hc dX0_act_2 rfl rfl ?_
  refine pv_iload_n 1 hc dX0_act_3 rfl rfl ?_
  refine pv_iload_n 2 hc dX0_act_4 rfl rfl ?_
  refine nt_catch (nA := 2) (As := [.int x1, .int x2]) (st := [.int 0, .ref x3]) hc htb ⟨by decide, by decide⟩ (by decide) q1501 (wax hW _ hc.2.2.2.2.2.1.2.2.1).2.1 hC hD (x1_actT_ok hW hX1 hX3 hX4 hlt hZ hf) hG (o_X1 hX1) (xk0 hX1) (lw_V q1539 q1540 q1541 q109 q1542) (by decide +kernel) ⟨by decide, by decide⟩ rfl rfl (Nat.le_of_ble_eq_true rfl) dX0_act_5 (fun n' q hn' => ?_)
  refine pv_astore (L' := [(4, .ref q), (0, .ref a), (1, .int x1), (2, .int x2), (3, .ref x3)]) hc dX0_act_13 hN (by decide) rfl ?_
  refine pv_iconst (1 : Int32) hc dX0_act_15 rfl ?_
  exact nt_iret hc hr hn' hQ dX0_act_16
