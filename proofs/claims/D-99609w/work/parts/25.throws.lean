/-! a throw of a new NoSuchElementException: must, and what calls it -/
set_option maxRecDepth 100000
theorem nse_at0 : ∀ w ∈ vy_at0 "ParlourLeaves" 158 "java/util/NoSuchElementException" ["java/lang/RuntimeException", "java/lang/Exception"], w ∈ lw_all ∨ (w ∈ lw_tbl ∧ nwGood w = true) ∨ w = .castable "java/util/NoSuchElementException" "java/util/NoSuchElementException" := by decide +kernel
theorem nse_ot : ∀ w ∈ Cond.classLink "ParlourLeaves" 156 "java/util/NoSuchElementException" :: Cond.initialized "java/util/NoSuchElementException" :: vy_at0 "ParlourLeaves" 158 "java/util/NoSuchElementException" ["java/lang/RuntimeException", "java/lang/Exception"], vy_ot w = true := by decide +kernel
/-- the static fields that a new exception reads -/
def ZX (g : Gh) (U : State) : Prop := vy_Zq Bundle.tN "UNASSIGNED_STACK" Bundle.steD (fun q => gb g ≤ q) U (gH g) ∧ vy_Zq Bundle.tN "SUPPRESSED_SENTINEL" Bundle.listD (fun q => gb g ≤ q) U (gH g)
def OKZ (g : Gh) : Prop := ∀ U, gS g U → ZX g U
theorem GW.grow {g : Gh} {G : Wd} {H H1 : Heap} (h : GW g G H) (hz : H.size ≤ H1.size) (ho : ∀ q, q < H.size → H1[q]? = H[q]?) : GW g (H1.size, G.2) H1 := by
  obtain ⟨h1, h0, h2, h3, h4⟩ := h
  refine ⟨rfl, by show gb g ≤ H1.size; omega, fun q hq => (ho q (by omega)).trans (h2 q hq), fun a k' r' ha => ?_, h4⟩
  obtain ⟨y1, y2⟩ := h3 a k' r' ha
  refine ⟨by show a < H1.size; omega, fun i q hq => ?_⟩
  obtain ⟨z1, z2⟩ := y2 i q hq
  refine ⟨z1, z2.kept (ho _ z2.lt)⟩
def XN (g : Gh) (G : Wd) : Addr → String → State → State → Prop := fun _ E _ t => E = "java/util/NoSuchElementException" ∧ ∃ n', G.1 ≤ n' ∧ GW g (n', G.2) t.heap
/-- a contract of a method that throws a NoSuchElementException, and changes nothing -/
def MNt (l : Launch) (g : Gh) (y : MethodName) (cc : ByteArray) (nL : Nat) (ret : Option FieldType) (ht : Nat) (G : Wd) (As : List Value) : Prop :=
  vy_Met l y (ws_ y cc nL ret) ({ frames := ht, cells := 1, slots := 6, locals := 64 * ht }) (va_Pc As (fun U => ST g U ∧ GW g G U.heap)) (fun _ _ _ _ => False) (XN g G) 1 6 (fun q => gb g ≤ q)
theorem x1_mustT {l : Launch} {g : Gh} {G : Wd} (hlt : l.stackTraces = false) (hZ : OKZ g) (hW : OKW g) : MNt l g yX1_must cX1_must 1 none 6 G [.int 0] := by
  refine vy_ofW (cc := cX1_must) (maxL := 1) (ret := none) (by decide) rfl ?_
  intro p e s m args below meth c s₁ B hml htb hv
  obtain ⟨rfl, hST, hG⟩ := hv
  have hts := atoms_spec (ws := ws_ yX1_must cX1_must 1 none) B.pre
  have hts : ∀ w ∈ lw_all, w.before _ s = true := fun w h => hts w (List.mem_cons_of_mem _ h)
  have hl := lv_entry [.int 0] (n := 1) (by decide)
  have hown := findClass_of_methodNamed B.named
  rw [lg_entry_eq]
  refine lv_iload_n B.exec B.bytes dX1_must_0 rfl (lv_at hl 0 rfl) ?_
  refine lv_if_ne (tgt := 12) B.exec B.bytes dX1_must_1 (by decide) (fun h => absurd rfl h) (fun _ => ?_)
  have hq9 : ∀ a : Nat, a < (gH g).size → ¬ gb g ≤ a → s.heap[a]? = (gH g)[a]? := fun a _ ha => hG.2.2.1 a (Nat.not_le.mp ha)
  obtain ⟨z1, z2⟩ := hZ s hST.2.2.1
  have hat : ∀ w ∈ vy_at0 "ParlourLeaves" 158 "java/util/NoSuchElementException" ["java/lang/RuntimeException", "java/lang/Exception"], w.before _ s = true := fun w hw => by
    rcases nse_at0 w hw with h | ⟨h1, h2⟩ | h
    · exact hts w h
    · exact va_Nw.use (by cases w <;> first | rfl | cases h2) (hST.2.1 w h1 h2)
    · subst h
      exact va_Nw.use rfl (wax hW s hST.2.2.1).2.1
  refine vy_throw0 (own := "ParlourLeaves") (cls := "java/util/NoSuchElementException") (names := ["java/lang/RuntimeException", "java/lang/Exception"]) (ik := 156) (ic := 158) (A := fun q => gb g ≤ q) B.exec B.bytes hlt hown (by decide +kernel) (by decide +kernel) (hts _ q1509) (hts _ q127) hat nse_ot (z1.kept hq9) (z2.kept hq9) ⟨Nat.le_refl _, fun _ _ _ => rfl, fun q hq => by cases hq⟩ (by rw [hml]; exact hl.1) dX1_must_4 dX1_must_7 dX1_must_8 dX1_must_11 (fun x hx => (htb x hx).elim) (by decide) (by decide) (by decide) (by decide) B.notSynchronized ?_ (fun z hz => by cases hz) (Nat.le_refl _) (Nat.le_refl _)
  intro t hA hz ho q9
  exact ⟨rfl, t.heap.size, by rw [← hG.1]; exact hz, hG.grow hz ho⟩
theorem x1_must_ok {l : Launch} {g : Gh} {G : Wd} {x : Int32} (hx : ¬ x = 0) : MT l g yX1_must cX1_must 1 none 1 G [.int x] none G := by
  refine pv_start (by decide) (Nat.le_of_ble_eq_true rfl) ?_
  intro X hl hg hN hc hr _ _ _ hQ
  subst hl; subst hg
  show V X 0 0 _ [(0, .int x)] [] 0
  refine pv_iload_n 0 hc dX1_must_0 rfl rfl ?_
  refine pv_if_ne (tgt := 12) (A := some ()) (B := none) (r := ()) hc dX1_must_1 (by decide) (by rw [if_neg hx]) (fun _ => ?_) (fun h => by cases h)
  exact pv_vret hc hr hQ rfl rfl dX1_must_12
/-- the start of a walk that ends in such a throw -/
theorem vm_startT {l : Launch} {g : Gh} {y : MethodName} {cc : ByteArray} {nL : Nat} {ret : Option FieldType} {ht : Nat} {G : Wd} {As : List Value} (hy : plainName y.cls = true) (hn : (lg_sl As).length ≤ nL)
    (body : ∀ X : CX, xl X = l → xg X = g → xn X = nL → OK X cc y.cls ht → (∀ x ∈ (xc X).exceptionTable.toList, False) → (xR X).cells = 1 → (xR X).slots = 6 → xQ X = vy_MQ (xb X) (fun _ _ _ _ => False) (XN (xg X) G) (xa X) (xs X) 1 6 (fun q => gb (xg X) ≤ q) → VM X G G G (lv_args 0 As) [] 0) :
    MNt l g y cc nL ret ht G As := by
  refine vy_ofW (cc := cc) (maxL := nL) (ret := ret) hy rfl ?_
  intro p e s m args below meth c s₁ B hml htb hv
  obtain ⟨rfl, hST, hG⟩ := hv
  have hts := atoms_spec (ws := ws_ y cc nL ret) B.pre
  have hts : ∀ w ∈ lw_all, w.before _ s = true := fun w h => hts w (List.mem_cons_of_mem _ h)
  have hl := lv_entry As (n := nL) hn
  rw [lg_entry_eq]
  have hb := (body (p, l, e, { frames := ht, cells := 1, slots := 6, locals := 64 * ht }, s, m, As.toArray, below, meth, c, g, nL, vy_MQ below (fun _ _ _ _ => False) (XN g G) As.toArray s 1 6 (fun q => gb g ≤ q)) rfl rfl rfl
    ⟨B.exec, B.bytes, hml, findClass_of_methodNamed B.named, hts, hST, B.notSynchronized, rfl, rfl⟩ htb rfl rfl rfl (Nat.le_refl _)).2
  rw [Nat.sub_self] at hb
  exact hb (Nat.zero_le _) (Nat.zero_le _) s.heap [] _ hG (fun q hq => by cases hq) hl
theorem nt_must {X : CX} {cc : ByteArray} {ht : Nat} {G : Wd} {L : List (Nat × Value)} {pc : Nat} {x : Int32} (hx : x = 0) (hc : OK X cc RX1 ht) (htb : ∀ x ∈ (xc X).exceptionTable.toList, False) (hlt : (xl X).stackTraces = false) (hZ : OKZ (xg X)) (hW : OKW (xg X)) (hC : (xR X).cells = 1) (hD : (xR X).slots = 6) (hh : 6 < ht) (hQ : xQ X = vy_MQ (xb X) (fun _ _ _ _ => False) (XN (xg X) G) (xa X) (xs X) 1 6 (fun q => gb (xg X) ≤ q)) (d : decode cc pc = .ok (.invokestatic 205, 3)) : VM X G G G L [.int x] pc := by
  subst hx
  intro _
  refine ⟨Nat.le_refl _, ?_⟩
  rw [Nat.sub_self]
  intro _ _ H locs ls hGW hS hl T hT S
  have hts := hc.2.2.2.2.1
  have cw := va_cwS (R := xR X) 1 hts (lw_S q1506 q1507 q109 q1508) rfl (rm := { frames := 6, cells := 1, slots := 6, locals := 64 * 6 }) rfl rfl (by decide +kernel) ⟨by rw [hc.2.2.2.2.2.2.2.1]; exact hh, by rw [hc.2.2.2.2.2.2.2.2]; show 8 + (1 + 11) + 64 * 6 ≤ 64 * ht; omega⟩
  have run := vy_runS (meth := xt X) (below := xb X) (e := xe X) (As := [.int 0]) (rest := []) (H := H) (locs := locs) (cells := 0) (slots := 1200 * 0) (g := F0 (xm X) pc ls [.int 0]) (nL := xn X) ⟨hc.1, hc.2.1, hc.2.2.1, hc.2.2.2.1, hts⟩ (x1_mustT (G := G) hlt hZ hW) cw ⟨blindPc _ _ _, fun U hU hWm => ⟨rfl, ST.warm hWm hc.2.2.2.2.2.1, by rw [hU]; exact hGW⟩⟩ rfl rfl hl.1 rfl (lv_room (by decide)) d ⟨by rw [hC]; exact Nat.le_refl _, by rw [hD]; exact Nat.le_refl _⟩
  rcases run T hT S with ⟨v, st₀, t, T', L', h0, X', hL, e1, e2, hF, -⟩ | ⟨q, st₀, t, T', L', E, ce, h0, X', hL, e1, e2, ⟨hE, n', hn', hb⟩, hce, hcv, hcl, go⟩
  · exact hF.elim
  · have hout : vy_W (xp X) (xl X) (xe X) (xR X) (xs X) (xm X) (xa X) (xb X) (xt X) (xc X) T'.heap (locs ++ L') (0 + 1) (1200 * 0 + 6) (xQ X) (F0 (xm X) pc ls []) q := by
      rw [hQ]
      refine vy_out (E := E) (ce := ce) (fun x hx => (htb x hx).elim) hc.2.2.2.2.2.2.1 (by rw [e1]; exact hce) hcv hcl (fun t9 ht9 hA => ⟨hE, n', hn', by rw [ht9, e1]; exact hb⟩) (fun z hz => by
        rcases List.mem_append.mp hz with h | h
        · exact hS z h
        · exact hL z h) (Nat.le_refl _) (Nat.le_refl _)
    obtain ⟨t2, a1, b1⟩ := hout T' rfl X'
    exact ⟨t2, go.trans a1, b1⟩
