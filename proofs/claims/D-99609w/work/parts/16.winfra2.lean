/-! further rows over worlds -/
set_option maxRecDepth 100000
def wf (G : Wd) (a kd : Nat) (r : Rec) (m : Nat) : Wd := (G.1 + m, (wp G a kd r).2)
def NE {β : Type} (a b : Nat) (k : Option β) : Option β := if a = b then none else k
theorem NE_el {β : Type} {a b : Nat} {k : Option β} {r : β} (h : NE a b k = some r) : a ≠ b ∧ k = some r := by
  unfold NE at h
  by_cases hz : a = b
  · rw [if_pos hz] at h; cases h
  · rw [if_neg hz] at h; exact ⟨hz, h⟩
theorem NE_of {β : Type} {a b : Nat} (k : Option β) (h : a ≠ b) : NE a b k = k := if_neg h
def sR (r : Rec) (j : Nat) (f : Nat → Option Nat) : Rec := (r.1, r.2.1, r.2.2.1, r.2.2.2.1, r.2.2.2.2.1, va_up r.2.2.2.2.2 j f)
theorem gQ_sR (r : Rec) (j : Nat) (f : Nat → Option Nat) (k : Nat) : gQ (sR r j f) k = if k = j then f else gQ r k := rfl
section VMT
variable {X : CX} {G0 Gf G : Wd} {L L' : List (Nat × Value)} {st st' : List Value} {pc pc' : Nat}
theorem vm_T {mc ms : Nat} (hR : RM X G0 Gf) (hle : G.1 ≤ Gf.1) (hm : mc = Gf.1 - G.1) (hs : ms = 1200 * (Gf.1 - G.1)) (row : ((G.1 - G0.1) + mc ≤ (xR X).cells ∧ 1200 * (G.1 - G0.1) + ms ≤ (xR X).slots) → (G.1 - G0.1) + mc ≤ Gf.1 - G0.1 → 1200 * (G.1 - G0.1) + ms ≤ 1200 * (Gf.1 - G0.1) → V X (G.1 - G0.1) (1200 * (G.1 - G0.1)) G L st pc) : VM X G0 Gf G L st pc := by
  intro hG
  subst hm; subst hs
  have e1 : G.1 - G0.1 + (Gf.1 - G.1) = Gf.1 - G0.1 := by omega
  have e2 : 1200 * (G.1 - G0.1) + 1200 * (Gf.1 - G.1) = 1200 * (Gf.1 - G0.1) := by omega
  refine ⟨hle, row ⟨?_, ?_⟩ (Nat.le_of_eq e1) (Nat.le_of_eq e2)⟩
  · rw [hR.1, e1]; exact Nat.le_refl _
  · rw [hR.2, e2]; exact Nat.le_refl _
theorem vm_call0 {w1 E : Wd} (e : w1 = E) (hz : E.1 = G.1) (hR : RM X G0 Gf) (row : ((G.1 - G0.1) + 0 ≤ (xR X).cells ∧ 1200 * (G.1 - G0.1) + 0 ≤ (xR X).slots) → V X ((G.1 - G0.1) + 0) (1200 * (G.1 - G0.1) + 0) E L' st' pc' → V X (G.1 - G0.1) (1200 * (G.1 - G0.1)) G L st pc) (h : VM X G0 Gf w1 L' st' pc') : VM X G0 Gf G L st pc := by
  subst e
  intro hG
  have h := h (by rw [hz]; exact hG)
  rw [hz] at h
  refine ⟨h.1, row ⟨?_, ?_⟩ h.2⟩
  · rw [hR.1]; omega
  · rw [hR.2]; omega
theorem vm_ifs {α : Type} {A B : Option α} {r : α} {c : Prop} [Decidable c] {L1 L2 : List (Nat × Value)} {st1 st2 : List Value} {pc1 pc2 : Nat} (h : (if c then A else B) = some r) (row : (if c then A else B) = some r → (A = some r → V X (G.1 - G0.1) (1200 * (G.1 - G0.1)) G L1 st1 pc1) → (¬ c → B = some r → V X (G.1 - G0.1) (1200 * (G.1 - G0.1)) G L2 st2 pc2) → V X (G.1 - G0.1) (1200 * (G.1 - G0.1)) G L st pc) (h1 : A = some r → VM X G0 Gf G L1 st1 pc1) (h2 : ¬ c → B = some r → VM X G0 Gf G L2 st2 pc2) : VM X G0 Gf G L st pc := by
  intro hG
  refine ⟨?_, row h (fun q => (h1 q hG).2) (fun z q => (h2 z q hG).2)⟩
  by_cases hc : c
  · rw [if_pos hc] at h; exact (h1 h hG).1
  · rw [if_neg hc] at h; exact (h2 hc h hG).1
theorem vm_init {w1 : Wd} {x kd : Nat} {r : Rec} (e : w1 = wf G x kd r 7) (hR : RM X G0 Gf) (row : ((G.1 - G0.1) + 7 ≤ (xR X).cells ∧ 1200 * (G.1 - G0.1) + 8400 ≤ (xR X).slots) → V X ((G.1 - G0.1) + 7) (1200 * (G.1 - G0.1) + 8400) (wf G x kd r 7) L' st' pc' → V X (G.1 - G0.1) (1200 * (G.1 - G0.1)) G L st pc) (h : VM X G0 Gf w1 L' st' pc') : VM X G0 Gf G L st pc := by
  subst e
  have hz : (wf G x kd r 7).1 = G.1 + 7 := rfl
  exact vm_call hR (by rw [hz]; omega) (by rw [hz]; omega) (by rw [hz]; omega) row h
end VMT
theorem va_rf_fits {C : String} {x : Option Nat} : fits (.object C) (va_rf x) = true := by cases x <;> rfl
section WR2
variable {X : CX} {cc : ByteArray} {own : String} {ht k n : Nat} {G : Wd} {L : List (Nat × Value)} {st : List Value} {pc : Nat}
/-- these references are null, or of records of this kind -/
def AQb (G : Wd) (f : Nat → Option Nat) (lo m kd : Nat) : Bool := (List.range m).all (fun i => match f (lo + i) with | none => true | some y => match G.2 y with | some q => q.1 == kd | none => false)
def AQ {β : Type} (G : Wd) (f : Nat → Option Nat) (lo m kd : Nat) (k : Option β) : Option β := if AQb G f lo m kd = true then k else none
theorem AQb_el {G : Wd} {f : Nat → Option Nat} {lo m kd : Nat} (h : AQb G f lo m kd = true) : ∀ i, i < m → ∀ y, f (lo + i) = some y → ∃ r, G.2 y = some (kd, r) := by
  intro i hi y hy
  have h1 := List.all_eq_true.mp h i (List.mem_range.mpr hi)
  rw [hy] at h1
  simp only at h1
  generalize hq : G.2 y = z at h1
  match z, h1 with
  | none, h1 => cases h1
  | some q, h1 => exact ⟨q.2, by rw [show kd = q.1 from (beq_iff_eq.mp h1).symm]⟩
theorem AQ_el {β : Type} {G : Wd} {f : Nat → Option Nat} {lo m kd : Nat} {k : Option β} {r : β} (h : AQ G f lo m kd k = some r) : AQb G f lo m kd = true ∧ k = some r := by
  unfold AQ at h
  by_cases hz : AQb G f lo m kd = true
  · rw [if_pos hz] at h; exact ⟨hz, h⟩
  · rw [if_neg hz] at h; cases h
theorem pv_copyq {index kd a ie q1 kd1 ci : Nat} {r r' : Rec} {c1 : ClassId} {n1 : Nat} {f : Nat → Option Nat} {C : String} {TT : u_T} {NN : Nat} (hc : OK X cc own ht) (hlink : Cond.methodLink own index arraycopyName ∈ lw_all) (hnat : Cond.native arraycopyName ∈ lw_all) (hstat : Cond.static arraycopyName ∈ lw_all) (hini : Cond.initialized "java/lang/System" ∈ lw_all) (hG : G.2 a = some (kd, r)) (he : (gE (xg X) kd a r)[ie]? = some (q1, .inl (c1, n1, .inr (.inr (.inr (.inr f)))))) (t1 : Nat) (ht1 : (gty (xg X))[t1]? = some (c1, .object C)) (hcl : (gcl (xg X))[ci]? = some (C, TT, NN)) {sp dp m0 : Int32} (hel : ∀ i, i < m0.toNatClampNeg → ∀ y, f (sp.toNatClampNeg + i) = some y → ∃ (s1 : Rec) (fs : List Value), G.2 y = some (kd1, s1) ∧ (gE (xg X) kd1 y s1)[0]? = some (y, .inr (ci, fs))) (h1 : ¬ sp < 0) (h2 : ¬ dp < 0) (h3 : ¬ m0 < 0) (h4 : sp.toNatClampNeg + m0.toNatClampNeg ≤ n1) (h5 : dp.toNatClampNeg + m0.toNatClampNeg ≤ n1) (hht : 1 ≤ ht) (hst : (st.map fun v => v.category).sum ≤ 8) (hs : gE (xg X) kd a r' = (gE (xg X) kd a r).set ie (q1, .inl (c1, n1, .inr (.inr (.inr (.inr (va_cpy f f sp.toNatClampNeg dp.toNatClampNeg m0.toNatClampNeg))))))) (d : decode cc pc = .ok (.invokestatic index, 3)) (h : V X k n (wp G a kd r') L st (pc + 3)) : V X k n G L (.int m0 :: .int dp :: .ref q1 :: .int sp :: .ref q1 :: st) pc := by
  intro hk hn H locs ls hW hS hl
  have nn : ∀ z : Int32, ¬ z < 0 → z.toInt = (z.toNatClampNeg : Int) := by
    intro z hz
    have hz0 : (0 : Int) ≤ z.toInt := by
      have := Int32.not_lt.mp hz
      simpa using Int32.le_iff_toInt_le.mp this
    show z.toInt = ((z.toInt.toNat : Nat) : Int)
    omega
  intro T hT Z
  have hts := hc.2.2.2.2.1
  have hK := hc.2.2.2.2.2.1.1
  have hc1 : H[q1]? = some (vp_cell c1 (n1, .inr (.inr (.inr (.inr f))))) := hW.at hG he
  obtain ⟨-, k1, hk1, cm1, hkk1⟩ := (hK.2 t1 _ ht1).1 n1 (fun j => va_rf (f j))
  obtain ⟨vm', X', step⟩ := Z.arraycopy hc.1 hc.2.2.2.1 (hts _ hlink) (hts _ hnat) (hts _ hstat) (hts _ hini) (src := q1) (dst := q1) (cs := vp_cell c1 (n1, .inr (.inr (.inr (.inr f))))) (cd := vp_cell c1 (n1, .inr (.inr (.inr (.inr f))))) (srcPos := sp) (destPos := dp) (n := m0) (by rw [hT]; exact hc1) (by rw [hT]; exact hc1)
    (fun _ h => by cases h) (fun _ h => by cases h) (fun h => by cases h) (fun h => by cases h) hk1 hk1 hkk1 hkk1 rfl h1 h2 h3
    (by rw [nn sp h1, nn m0 h3]; show ¬ _ > ((arrV c1 n1 (fun j => va_rf (f j))).slots.size : Int); rw [arrV_size]; omega)
    (by rw [nn dp h2, nn m0 h3]; show ¬ _ > ((arrV c1 n1 (fun j => va_rf (f j))).slots.size : Int); rw [arrV_size]; omega)
    (fun vm₁ hal i hi => by
      have e : (vp_cell c1 (n1, .inr (.inr (.inr (.inr f))))).slots.getD (sp.toNatClampNeg + i) .null = va_rf (f (sp.toNatClampNeg + i)) := by
        show (arrV c1 n1 (fun j => va_rf (f j))).slots.getD _ _ = _
        rw [Array.getD_eq_getD_getElem?, arrV_read _ _ (by omega)]
        rfl
      rw [e]
      cases hy : f (sp.toNatClampNeg + i) with
      | none => exact ⟨rfl, trivial⟩
      | some y =>
        obtain ⟨s1, fs, w1, w2⟩ := hel i hi y hy
        obtain ⟨cellV, g1, g2, g3⟩ := va_recv hK (hW.P w1 w2) (q0 := 0) hcl rfl
        obtain ⟨kA, comp, r1, r2, r3, -⟩ := (hK.2 t1 _ ht1).2
        cases hk1.symm.trans r1
        cases hkk1.symm.trans r2
        obtain ⟨kC, hkC, -⟩ := Vm.findClass_spec g3
        obtain ⟨kE, hkE, -⟩ := Vm.findClass_spec r3
        obtain ⟨kC', hkC', -⟩ := hal.2.2 _ _ hkC
        obtain ⟨kE', hkE', -⟩ := hal.2.2 _ _ hkE
        refine ⟨rfl, cellV, (show T.heap[y]? = some cellV by rw [hT]; exact g1), (fun q h => by rw [h] at g2; cases g2), ⟨kC', hkC'⟩, ?_, ?_⟩
        · exact ⟨kE', hkE'⟩
        · show vm₁.assignable _ _ = true
          rw [hal.assignable]
          have hcls := (hK.1 ci _ hcl).2
          cases g3.symm.trans r3
          have e5 : (gD (xg X)).1 ci = cellV.cls := Option.some.inj (hcls.1.symm.trans g3)
          rw [← e5]
          exact va_assign hcls)
    (g := F0 (xm X) pc ls (.int m0 :: .int dp :: .ref q1 :: .int sp :: .ref q1 :: st)) rfl (by rw [hc.2.2.1]; exact hl.1) (rest := st) rfl (by rw [hc.2.1]; exact d) (by rw [hc.2.2.2.2.2.2.2.1]; exact hht) (by
      have e9 : nativeFrameWords "java/lang/System" "arraycopy" 5 ≤ 40 := by decide
      rw [hc.2.2.2.2.2.2.2.2]
      show 2 * 0 + _ + _ ≤ _
      omega)
  have e1 : copied (vp_cell c1 (n1, .inr (.inr (.inr (.inr f))))) (vp_cell c1 (n1, .inr (.inr (.inr (.inr f))))) sp dp m0 = vp_cell c1 (n1, .inr (.inr (.inr (.inr (va_cpy f f sp.toNatClampNeg dp.toNatClampNeg m0.toNatClampNeg))))) := by
    rw [vp_cell_q, vp_cell_q]
    exact va_copied (fun z => va_rf z) c1 c1 f f h4
  rw [e1] at X' step
  have hl9 : q1 < H.size := (Array.getElem?_eq_some_iff.mp hc1).1
  have hheap : ((T.setVm vm').setCell q1 (vp_cell c1 (n1, .inr (.inr (.inr (.inr (va_cpy f f sp.toNatClampNeg dp.toNatClampNeg m0.toNatClampNeg))))))).heap = H.setIfInBounds q1 (vp_cell c1 (n1, .inr (.inr (.inr (.inr (va_cpy f f sp.toNatClampNeg dp.toNatClampNeg m0.toNatClampNeg)))))) := by rw [← hT]; rfl
  have oq : ∀ q : Nat, q ≠ q1 → (H.setIfInBounds q1 (vp_cell c1 (n1, .inr (.inr (.inr (.inr (va_cpy f f sp.toNatClampNeg dp.toNatClampNeg m0.toNatClampNeg)))))))[q]? = H[q]? := fun q hq => by simp [Array.getElem?_setIfInBounds, Ne.symm hq]
  obtain ⟨t, a1, b1⟩ := h hk hn _ _ ls (hW.set hG he hs (by simp) oq (show (H.setIfInBounds q1 _)[q1]? = some _ by simp [Array.getElem?_setIfInBounds, hl9])) (fun q hq => by
      rcases List.mem_append.mp hq with h | h
      · exact hS q h
      · obtain ⟨z, -, hz⟩ := List.mem_map.mp h
        rw [← hz]
        exact hW.lo hG he) hl _ hheap X'
  exact ⟨t, step t a1, b1⟩
theorem pv_newa2 {atype : ArrayType} {ty : FieldType} {kd t0 N b : Nat} {r : Rec} {cA : ClassId} {a0 : vp_A} {x : Int32} {w1 : Wd} (hw : w1 = wn G kd r) (hb : b = G.1) (hc : OK X cc own ht) (harr : Cond.arrayClass (newarray.typeOf atype) ∈ lw_all) (hty : newarray.typeOf atype = ty) (hprim : ∀ U : State, va_RA U cA ty = (U.vm.findClass ("[" ++ ty.toString) = some cA)) (hT : (gty (xg X))[t0]? = some (cA, ty)) (ha : vp_cell cA a0 = arrV cA N (fun _ => defaultValue ty)) (hE : gE (xg X) kd G.1 r = [(G.1, .inl (cA, a0))]) (hx : ¬ x < 0) (hN : x.toNatClampNeg = N) (hbytes : N * componentBytes ty ≤ 536870912) (hcap : k + 1 ≤ (xR X).cells ∧ n + N ≤ (xR X).slots) (d : decode cc pc = .ok (.newarray atype, 2)) (h : V X (k + 1) (n + N) w1 L (.ref b :: st) (pc + 2)) : V X k n G L (.int x :: st) pc := by
  subst hw
  subst hb
  exact pv_newa hc harr hty hprim hT ha hE hx hN hbytes hcap d h
theorem pv_new2 {C : String} {T : u_T} {N ci index kd b : Nat} {r : Rec} {fs : List Value} {w1 : Wd} (hw : w1 = wn G kd r) (hb : b = G.1) (hc : OK X cc own ht) (hcl : (gcl (xg X))[ci]? = some (C, T, N)) (hin : ∀ w ∈ u_ws C T N, w ∈ lw_all) (ty : Nat → FieldType) (hty : ∀ k, k < N → parseFieldDescriptor (T k).2.2.1 = some (ty k)) (hlink : Cond.classLink own index C ∈ lw_all) (hinst : Cond.instantiable C N ∈ lw_all) (hini : Cond.initialized C ∈ lw_all) (hE : gE (xg X) kd G.1 r = [(G.1, .inr (ci, fs))]) (hfs : ∀ j, j < N → defaultValue (ty j) = vp_V fs j) (hcap : k + 1 ≤ (xR X).cells ∧ n + N ≤ (xR X).slots) (d : decode cc pc = .ok (.new index, 3)) (h : V X (k + 1) (n + N) w1 L (.ref b :: st) (pc + 3)) : V X k n G L st pc := by
  subst hw
  subst hb
  exact pv_new hc hcl hin ty hty hlink hinst hini hE hfs hcap d h
end WR2
