/-! rows for the constructors of the main object, its readers and its fault -/
set_option maxRecDepth 100000
theorem la_apart {args : Array Value} {s : State} {C O f d O' f' d' : String} (h : (Cond.laysFinal C O f d).before args s = true) (h' : (Cond.laysFinal C O' f' d').before args s = true) {cf kf fi fd cf' kf' fi' fd'} (hi : s.fieldFound? O f d = some (cf, kf, fi, fd)) (hi' : s.fieldFound? O' f' d' = some (cf', kf', fi', fd')) (hne : O ≠ O') : fd.slot ≠ fd'.slot := by
  obtain ⟨c, k, c1, k1, i1, f1, a1, a2, a3, a4, a5, a6, a7, a8, d1, b1, b2, b3, b4⟩ := Cond.laysFinal_spec h
  obtain ⟨c', k', c1', k1', i1', f1', a1', a2', a3', a4', a5', a6', a7', a8', d1', b1', b2', b3', b4'⟩ := Cond.laysFinal_spec h'
  cases hi.symm.trans a3
  cases hi'.symm.trans a3'
  cases a1.symm.trans a1'
  intro he
  rw [he] at b1
  cases b1.symm.trans b1'
  obtain ⟨q, q1, q2⟩ := Vm.findClass_spec a7
  obtain ⟨q', q1', q2'⟩ := Vm.findClass_spec a7'
  cases q1.symm.trans (State.fieldFound?_spec hi).1
  cases q1'.symm.trans (State.fieldFound?_spec hi').1
  exact hne (q2.symm.trans (b2.symm.trans (b2'.trans q2')))
theorem pv_apartF {s : State} {args : Array Value} {D : va_G} {cl : List vw_C} {tys : List (ClassId × FieldType)} {C : String} {T : u_T} {N ci : Nat} {Ts : List Cond} (hts : ∀ w ∈ Ts, w.before args s = true) (hin : ∀ w ∈ u_ws C T N, w ∈ Ts) (ty : Nat → FieldType) (hty : ∀ k, k < N → parseFieldDescriptor (T k).2.2.1 = some (ty k)) (hK : va_K D cl tys s) (hc : cl[ci]? = some (C, T, N)) (j : Nat) (hj : j < N) (hnm : ∀ b, b < N → b ≠ j → (T b).2.1 ≠ (T j).2.1 ∨ ((T b).1 ≠ (T j).1 ∧ (T b).2.2.2 = true ∧ (T j).2.2.2 = true)) : ∀ x, x < N → x ≠ j → (D.2 ci) x ≠ (D.2 ci) j := by
  intro x hx hne
  obtain ⟨hS, -⟩ := hK.1 ci _ hc
  obtain ⟨_, _, _, fa, hia, ea⟩ := hS x hx
  obtain ⟨_, _, _, fb, hib, eb⟩ := hS j hj
  rw [← ea, ← eb]
  rcases hnm x hx hne with h | ⟨h1, h2, h3⟩
  · refine u_apart (u_lays hts hin hx) (u_lays hts hin hj) hia hib ?_
    rw [(State.fieldFound?_type hia (hty x hx)).1, (State.fieldFound?_type hib (hty j hj)).1]
    exact h
  · have l1 := hts _ (hin _ (u_in_lay hx))
    have l2 := hts _ (hin _ (u_in_lay hj))
    unfold u_lay at l1 l2
    rw [if_pos h2] at l1
    rw [if_pos h3] at l2
    exact la_apart l1 l2 hia hib h1
section CI
variable {X : CX} {cc : ByteArray} {own : String} {ht k n : Nat} {G : Wd} {L : List (Nat × Value)} {st : List Value} {pc : Nat}
/-- a final field, laid in the constructor of its class; another field may have its name in the class above -/
theorem pv_putG {C : String} {T : u_T} {N ci index kd a ie o : Nat} {r r' : Rec} {fs : List Value} {v : Value} (hc : OK X cc own ht) (hnm0 : (xt X).name = "<init>") (hG : G.2 a = some (kd, r)) (he : (gE (xg X) kd a r)[ie]? = some (o, .inr (ci, fs))) (hcl : (gcl (xg X))[ci]? = some (C, T, N)) (hin : ∀ w ∈ u_ws C T N, w ∈ lw_all) (ty0 : Nat → FieldType) (hty : ∀ k, k < N → parseFieldDescriptor (T k).2.2.1 = some (ty0 k)) (j : Nat) (hj : j < N) (hown : (T j).1 = own) (hnm : ∀ b, b < N → b ≠ j → (T b).2.1 ≠ (T j).2.1 ∨ ((T b).1 ≠ (T j).1 ∧ (T b).2.2.2 = true ∧ (T j).2.2.2 = true)) (hlink : Cond.fieldLink own index (T j).1 (T j).2.1 (T j).2.2.1 ∈ lw_all) (hfin : (T j).2.2.2 = true) (hn : narrow (ty0 j) v = v) (hfit : fits (ty0 j) v = true) (hl : j < fs.length) (hs : gE (xg X) kd a r' = (gE (xg X) kd a r).set ie (o, .inr (ci, fs.set j v))) (d : decode cc pc = .ok (.putfield index, 3)) (h : V X k n (wp G a kd r') L st (pc + 3)) : V X k n G L (v :: .ref o :: st) pc := by
  intro hk hn' H locs ls hW hS hl'
  have hts := hc.2.2.2.2.1
  have hK := hc.2.2.2.2.2.1.1
  have hap := pv_apartF hts hin ty0 hty hK hcl j hj hnm
  obtain ⟨r9, h1, cell, q1, q2, q3, q4⟩ := hW.at hG he
  have hr : r9 = (C, T, N) := Option.some.inj (h1.symm.trans hcl)
  subst hr
  obtain ⟨hSl, hfc, kC, hkC, hkind⟩ := hK.1 ci _ hcl
  obtain ⟨cf, kf, fi, f, hi, hsl⟩ := hSl j hj
  have hlay := hts _ (hin _ (u_in_lay hj))
  unfold u_lay at hlay
  rw [if_pos hfin] at hlay
  have hst := (u_facts hfc hkC (u_lays hts hin hj) hi).1
  have h6 := u_fits hfc hkC hkind (Or.inr hlay) hi (hty j hj) hn hfit
  have hcf : (xm X).cls = cf := by
    obtain ⟨c9, k9, cf9, kf9, fi9, fd9, g1, g2, g3, g4, g5, g6, g7, -⟩ := Cond.laysFinal_spec hlay
    cases hi.symm.trans g3
    have h8 := hc.2.2.2.1
    rw [← hown] at h8
    exact Option.some.inj (h8.symm.trans g7)
  refine W.putFinK hc.1 hc.2.1 hc.2.2.2.1 (hts _ hlink) hi hst hcf hnm0 (by rw [q2]; exact h6) q1 q3 (by rw [hsl]; exact k2_hasslot (q4 j hj)) rfl rfl d (fun H' e1 e2 e3 => ?_)
  rw [hsl] at e1 ⊢
  refine h hk hn' H' _ ls (hW.set hG he hs e2 e3 ⟨_, hcl, t_OB.to (V := updV (vp_V fs) j v) ⟨_, e1, q2, q3, t_set1 q4 hj hap v⟩ (fun j' _ => vp_updV_set hl v j')⟩) (fun q hq => ?_) hl'
  rcases List.mem_append.mp hq with h9 | h9
  · exact hS q h9
  · cases List.mem_singleton.mp h9
    exact hW.lo hG he
/-- a constant text laid into an array of texts -/
theorem pv_aastS {kd a off i0 N q : Nat} {r r' : Rec} {cA : ClassId} {f : Nat → Option Nat} {i : Int32} {j : Nat} {A : Nat → Prop} (hc : OK X cc own ht) (hG : G.2 a = some (kd, r)) (he : (gE (xg X) kd a r)[off]? = some (i0, .inl (cA, N, .inr (.inr (.inr (.inr f)))))) (t0 : Nat) (hty : (gty (xg X))[t0]? = some (cA, .object "java/lang/String")) (hO : ∀ H : Heap, GW (xg X) G H → va_O "java/lang/String" q A (xs X) H) {cS : ClassId} (hcS : ClassAt (xs X) "java/lang/String" cS) (hj : vp_in i N ∧ i.toNatClampNeg = j) (hs : gE (xg X) kd a r' = (gE (xg X) kd a r).set off (i0, .inl (cA, N, .inr (.inr (.inr (.inr (va_up f j (some q)))))))) (d : decode cc pc = .ok (.aastore, 1)) (h : V X k n (wp G a kd r') L st (pc + 1)) : V X k n G L (.ref q :: .int i :: .ref i0 :: st) pc := by
  intro hk hn H locs ls hW hS hl
  obtain ⟨hin, rfl⟩ := hj
  have hK := hc.2.2.2.2.2.1.1
  have hlt : i.toNatClampNeg < N := Nat.not_le.mp fun q => hin (Or.inr q)
  have h0 : ¬ i < 0 := fun q => hin (Or.inl q)
  obtain ⟨cellV, g1, g2, g3, -⟩ := hO H hW
  obtain ⟨kA, comp, k1, k2, k3, -⟩ := (hK.2 t0 _ hty).2
  obtain ⟨kE, hkE, -⟩ := Vm.findClass_spec k3
  have e1 : cS = comp := Option.some.inj (hcS.1.symm.trans k3)
  have e2 : cellV.cls = comp := Option.some.inj (g3.symm.trans k3)
  subst e1
  refine W.aast hc.1 hc.2.1 (hW.at hG he) (fun q h => by cases h) (fun h => by cases h) k1 k2 rfl hkE ⟨h0, by show _ < (arrV _ _ _).slots.size; rw [arrV_size]; exact hlt⟩ g1 (fun q h => by rw [h] at g2; cases g2) (by rw [e2]; exact hkE) (by rw [e2]; exact va_assign hcS) rfl rfl d fun H1 e z oq => ?_
  refine h hk hn H1 _ ls (hW.set hG he hs z oq ?_) (fun q hq => ?_) hl
  · show H1[i0]? = some (vp_cell _ _)
    rw [e]
    rw [vp_cell_q, vp_cell_q, arrV_store]
    congr 2
    funext q
    by_cases hq : q = i.toNatClampNeg
    · subst hq
      simp [updV, va_up, va_rf]
    · simp [updV, va_up, hq]
  · rcases List.mem_append.mp hq with h9 | h9
    · exact hS q h9
    · cases List.mem_singleton.mp h9
      exact hW.lo hG he
end CI
