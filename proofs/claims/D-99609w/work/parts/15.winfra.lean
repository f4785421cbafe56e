/-! WORLDS AS ARGUMENTS: functions that take the ghost heap and answer with the next; the judgement VM counts new cells by the heap's size -/
set_option maxRecDepth 100000
def r0 : Rec := (fun _ => 0, fun _ _ => 0, fun _ => 0, fun _ _ => 0, fun _ => none, fun _ _ => none)
def RD {β : Type} (G : Wd) (a kd : Nat) (k : Rec → Option β) : Option β := match G.2 a with | none => none | some q => if q.1 = kd then k q.2 else none
theorem RD_el {β : Type} {G : Wd} {a kd : Nat} {k : Rec → Option β} {r : β} (h : RD G a kd k = some r) : ∃ s, G.2 a = some (kd, s) ∧ k s = some r := by
  unfold RD at h
  generalize hq : G.2 a = z at h
  match z, h with
  | none, h => cases h
  | some q, h =>
    by_cases hk : q.1 = kd
    · subst hk
      exact ⟨q.2, rfl, (if_pos rfl).symm.trans h⟩
    · exact absurd ((if_neg hk).symm.trans h) (by simp)
theorem RD_of {β : Type} {G : Wd} {a kd : Nat} {s : Rec} (k : Rec → Option β) (h : G.2 a = some (kd, s)) : RD G a kd k = k s := by
  unfold RD
  rw [h]
  exact if_pos rfl
theorem wp_at' {G w : Wd} {a kd : Nat} {r : Rec} (e : w = wp G a kd r) : w.2 a = some (kd, r) := by rw [e]; exact wp_at _ _ _ _
theorem wn_at {G w : Wd} {kd : Nat} {r : Rec} (e : w = wn G kd r) : w.2 G.1 = some (kd, r) := by rw [e]; exact wp_at _ _ _ _
def MG {β : Type} (w w1 : Wd) (k : Option β) : Option β := if w.1 ≤ w1.1 then k else none
theorem MG_el {β : Type} {w w1 : Wd} {k : Option β} {r : β} (h : MG w w1 k = some r) : w.1 ≤ w1.1 ∧ k = some r := by
  unfold MG at h
  by_cases hz : w.1 ≤ w1.1
  · rw [if_pos hz] at h; exact ⟨hz, h⟩
  · rw [if_neg hz] at h; cases h
theorem MG_of {β : Type} {w w1 : Wd} (k : Option β) (h : w.1 ≤ w1.1) : MG w w1 k = k := if_pos h
def BXW {α β : Type} (o : Option (Option α × Wd)) (kx : Wd → Option β) (k : α → Wd → Option β) : Option β := match o with | none => none | some (none, s) => kx s | some (some v, s) => k v s
theorem BXW_el {α β : Type} {o : Option (Option α × Wd)} {kx : Wd → Option β} {k : α → Wd → Option β} {r : β} (h : BXW o kx k = some r) : (∃ s, o = some (none, s) ∧ kx s = some r) ∨ ∃ v s, o = some (some v, s) ∧ k v s = some r := by
  match o, h with
  | none, h => cases h
  | some (none, s), h => exact Or.inl ⟨s, rfl, h⟩
  | some (some v, s), h => exact Or.inr ⟨v, s, rfl, h⟩
/-- the judgement over worlds: the new cells are those behind the first world's end, 80 slots for each -/
def VM (X : CX) (G0 Gf G : Wd) (L : List (Nat × Value)) (st : List Value) (pc : Nat) : Prop := G0.1 ≤ G.1 → G.1 ≤ Gf.1 ∧ V X (G.1 - G0.1) (1200 * (G.1 - G0.1)) G L st pc
/-- the room of a walk over worlds -/
def RM (X : CX) (G0 Gf : Wd) : Prop := (xR X).cells = Gf.1 - G0.1 ∧ (xR X).slots = 1200 * (Gf.1 - G0.1)
section VMS
variable {X : CX} {G0 Gf G : Wd} {L L' : List (Nat × Value)} {st st' : List Value} {pc pc' : Nat}
theorem vm_l (row : V X (G.1 - G0.1) (1200 * (G.1 - G0.1)) G L' st' pc' → V X (G.1 - G0.1) (1200 * (G.1 - G0.1)) G L st pc) (h : VM X G0 Gf G L' st' pc') : VM X G0 Gf G L st pc := fun hG => ⟨(h hG).1, row (h hG).2⟩
theorem vm_e {w1 E : Wd} (e : w1 = E) (hz : E.1 = G.1) (row : V X (G.1 - G0.1) (1200 * (G.1 - G0.1)) E L' st' pc' → V X (G.1 - G0.1) (1200 * (G.1 - G0.1)) G L st pc) (h : VM X G0 Gf w1 L' st' pc') : VM X G0 Gf G L st pc := by
  subst e
  intro hG
  have h := h (by rw [hz]; exact hG)
  rw [hz] at h
  exact ⟨h.1, row h.2⟩
theorem vm_if {α : Type} {A B : Option α} {r : α} {c : Prop} [Decidable c] {L1 L2 : List (Nat × Value)} {st1 st2 : List Value} {pc1 pc2 : Nat} (h : (if c then A else B) = some r) (row : (if c then A else B) = some r → (A = some r → V X (G.1 - G0.1) (1200 * (G.1 - G0.1)) G L1 st1 pc1) → (B = some r → V X (G.1 - G0.1) (1200 * (G.1 - G0.1)) G L2 st2 pc2) → V X (G.1 - G0.1) (1200 * (G.1 - G0.1)) G L st pc) (h1 : A = some r → VM X G0 Gf G L1 st1 pc1) (h2 : B = some r → VM X G0 Gf G L2 st2 pc2) : VM X G0 Gf G L st pc := by
  intro hG
  refine ⟨?_, row h (fun q => (h1 q hG).2) (fun q => (h2 q hG).2)⟩
  by_cases hc : c
  · rw [if_pos hc] at h; exact (h1 h hG).1
  · rw [if_neg hc] at h; exact (h2 h hG).1
theorem vm_ifn {α : Type} {A B : Option α} {r : α} {c : Prop} [Decidable c] {L1 L2 : List (Nat × Value)} {st1 st2 : List Value} {pc1 pc2 : Nat} (h : (if c then B else A) = some r) (row : (if c then B else A) = some r → (A = some r → V X (G.1 - G0.1) (1200 * (G.1 - G0.1)) G L1 st1 pc1) → (B = some r → V X (G.1 - G0.1) (1200 * (G.1 - G0.1)) G L2 st2 pc2) → V X (G.1 - G0.1) (1200 * (G.1 - G0.1)) G L st pc) (h1 : A = some r → VM X G0 Gf G L1 st1 pc1) (h2 : B = some r → VM X G0 Gf G L2 st2 pc2) : VM X G0 Gf G L st pc := by
  intro hG
  refine ⟨?_, row h (fun q => (h1 q hG).2) (fun q => (h2 q hG).2)⟩
  by_cases hc : c
  · rw [if_pos hc] at h; exact (h2 h hG).1
  · rw [if_neg hc] at h; exact (h1 h hG).1
theorem vm_call {w1 : Wd} {mc ms : Nat} (hR : RM X G0 Gf) (hle : G.1 ≤ w1.1) (hm : mc = w1.1 - G.1) (hs : ms = 1200 * (w1.1 - G.1)) (row : ((G.1 - G0.1) + mc ≤ (xR X).cells ∧ 1200 * (G.1 - G0.1) + ms ≤ (xR X).slots) → V X ((G.1 - G0.1) + mc) (1200 * (G.1 - G0.1) + ms) w1 L' st' pc' → V X (G.1 - G0.1) (1200 * (G.1 - G0.1)) G L st pc) (h : VM X G0 Gf w1 L' st' pc') : VM X G0 Gf G L st pc := by
  intro hG
  obtain ⟨h1, h2⟩ := h (Nat.le_trans hG hle)
  subst hm; subst hs
  have e1 : G.1 - G0.1 + (w1.1 - G.1) = w1.1 - G0.1 := by omega
  have e2 : 1200 * (G.1 - G0.1) + 1200 * (w1.1 - G.1) = 1200 * (w1.1 - G0.1) := by omega
  rw [e1, e2, hR.1, hR.2] at row
  exact ⟨Nat.le_trans hle h1, row ⟨by omega, by omega⟩ h2⟩
/-- a new cell of N slots -/
theorem vm_new {w1 : Wd} {N : Nat} (hR : RM X G0 Gf) (hN : N ≤ 1200) (hz : w1.1 = G.1 + 1) (row : ((G.1 - G0.1) + 1 ≤ (xR X).cells ∧ 1200 * (G.1 - G0.1) + N ≤ (xR X).slots) → V X ((G.1 - G0.1) + 1) (1200 * (G.1 - G0.1) + N) w1 L' st' pc' → V X (G.1 - G0.1) (1200 * (G.1 - G0.1)) G L st pc) (h : VM X G0 Gf w1 L' st' pc') : VM X G0 Gf G L st pc := by
  intro hG
  obtain ⟨h1, h2⟩ := h (by omega)
  have e1 : w1.1 - G0.1 = G.1 - G0.1 + 1 := by omega
  rw [e1] at h2
  refine ⟨by omega, ?_⟩
  by_cases hk : (G.1 - G0.1) + 1 ≤ (xR X).cells
  · have hsl : 1200 * (G.1 - G0.1) + 1200 ≤ (xR X).slots := by rw [hR.1] at hk; rw [hR.2]; omega
    exact row ⟨hk, by omega⟩ (pv_widen (Nat.le_refl _) (by omega) hk (by omega) h2)
  · rw [hR.1] at hk; omega
theorem vm_sub (ks : List Nat) (hL : lv_pick L ks = L') (h : VM X G0 Gf G L' st pc) : VM X G0 Gf G L st pc := vm_l (pv_sub ks hL) h
theorem vm_st (e : st' = st) (h : VM X G0 Gf G L st' pc) : VM X G0 Gf G L st pc := e ▸ h
end VMS
/-- the start of a walk over worlds -/
theorem vm_start {l : Launch} {g : Gh} {y : MethodName} {cc : ByteArray} {nL : Nat} {ret : Option FieldType} {ht : Nat} {G G1 : Wd} {As : List Value} {r : Option Value} (hy : plainName y.cls = true) (hn : (lg_sl As).length ≤ nL)
    (body : ∀ X : CX, xl X = l → xg X = g → xn X = nL → OK X cc y.cls ht → (xt X).sig.returnType = ret → (xt X).name = y.name → RM X G G1 → xQ X = MQ (xb X) (Qf g r G1) (xa X) (xs X) (G1.1 - G.1) (1200 * (G1.1 - G.1)) (fun q => gb g ≤ q) → VM X G G1 G (lv_args 0 As) [] 0) : MTa l g y cc nL ret ht (G1.1 - G.1) (1200 * (G1.1 - G.1)) G As r G1 := by
  refine pv_start hy hn fun X h1 h2 h3 h4 h5 h6 h7 h8 h9 => ?_
  have h := (body X h1 h2 h3 h4 h5 h6 ⟨h7, h8⟩ h9 (Nat.le_refl _)).2
  rw [Nat.sub_self] at h
  exact h
theorem vm_startX {l : Launch} {g : Gh} {y : MethodName} {cc : ByteArray} {nL : Nat} {ret : Option FieldType} {ht fa : Nat} {E0 : String} {G G1 : Wd} {As : List Value} {o : Option (Option Value)} (hy : plainName y.cls = true) (hn : (lg_sl As).length ≤ nL)
    (body : ∀ X : CX, xl X = l → xg X = g → xn X = nL → OK X cc y.cls ht → (xt X).sig.returnType = ret → (∀ x ∈ (xc X).exceptionTable.toList, False) → RM X G G1 → xQ X = QX X fa E0 o G1 (G1.1 - G.1) (1200 * (G1.1 - G.1)) → VM X G G1 G (lv_args 0 As) [] 0) : MXa l g y cc nL ret ht (G1.1 - G.1) (1200 * (G1.1 - G.1)) fa E0 G As o G1 := by
  refine pv_startX hy hn fun X h1 h2 h3 h4 h5 h6 h7 h8 h9 => ?_
  have h := (body X h1 h2 h3 h4 h5 h6 ⟨h7, h8⟩ h9 (Nat.le_refl _)).2
  rw [Nat.sub_self] at h
  exact h
section WR
variable {X : CX} {cc : ByteArray} {own : String} {ht k n : Nat} {G : Wd} {L : List (Nat × Value)} {st : List Value} {pc : Nat}
/-- a final field, laid in the constructor of its class -/
theorem pv_putF {C : String} {T : u_T} {N ci index kd a ie o : Nat} {r r' : Rec} {fs : List Value} {v : Value} (hc : OK X cc own ht) (hnm0 : (xt X).name = "<init>") (hG : G.2 a = some (kd, r)) (he : (gE (xg X) kd a r)[ie]? = some (o, .inr (ci, fs))) (hcl : (gcl (xg X))[ci]? = some (C, T, N)) (hin : ∀ w ∈ u_ws C T N, w ∈ lw_all) (ty0 : Nat → FieldType) (hty : ∀ k, k < N → parseFieldDescriptor (T k).2.2.1 = some (ty0 k)) (j : Nat) (hj : j < N) (hown : (T j).1 = own) (hnm : ∀ b, b < N → b ≠ j → (T b).2.1 ≠ (T j).2.1) (hlink : Cond.fieldLink own index (T j).1 (T j).2.1 (T j).2.2.1 ∈ lw_all) (hfin : (T j).2.2.2 = true) (hn : narrow (ty0 j) v = v) (hfit : fits (ty0 j) v = true) (hl : j < fs.length) (hs : gE (xg X) kd a r' = (gE (xg X) kd a r).set ie (o, .inr (ci, fs.set j v))) (d : decode cc pc = .ok (.putfield index, 3)) (h : V X k n (wp G a kd r') L st (pc + 3)) : V X k n G L (v :: .ref o :: st) pc := by
  intro hk hn' H locs ls hW hS hl'
  have hts := hc.2.2.2.2.1
  have hK := hc.2.2.2.2.2.1.1
  have hap := pv_apart1 hts hin ty0 hty hK hcl j hj hnm
  obtain ⟨r9, h1, cell, q1, q2, q3, q4⟩ := hW.at hG he
  have hr : r9 = (C, T, N) := Option.some.inj (h1.symm.trans hcl)
  subst hr
  obtain ⟨hSl, hfc, kC, hkC, hkind⟩ := hK.1 ci _ hcl
  obtain ⟨cf, kf, fi, f, hi, hsl⟩ := hSl j hj
  have hlay := hts _ (hin _ (u_in_lay hj))
  unfold u_lay at hlay
  rw [if_pos hfin] at hlay
  have hst := (u_facts hfc hkC (u_lays hts hin hj) hi).1
  have h6 := u_fits hfc hkC hkind (Or.inr hlay) hi (hty j hj) hn hfit
  have hcf : (xm X).cls = cf := by
    obtain ⟨c9, k9, cf9, kf9, fi9, fd9, g1, g2, g3, g4, g5, g6, g7, -⟩ := Cond.laysFinal_spec hlay
    cases hi.symm.trans g3
    have h8 := hc.2.2.2.1
    rw [← hown] at h8
    exact Option.some.inj (h8.symm.trans g7)
  refine W.putFinK hc.1 hc.2.1 hc.2.2.2.1 (hts _ hlink) hi hst hcf hnm0 (by rw [q2]; exact h6) q1 q3 (by rw [hsl]; exact k2_hasslot (q4 j hj)) rfl rfl d (fun H' e1 e2 e3 => ?_)
  rw [hsl] at e1 ⊢
  refine h hk hn' H' _ ls (hW.set hG he hs e2 e3 ⟨_, hcl, t_OB.to (V := updV (vp_V fs) j v) ⟨_, e1, q2, q3, t_set1 q4 hj hap v⟩ (fun j' _ => vp_updV_set hl v j')⟩) (fun q hq => ?_) hl'
  rcases List.mem_append.mp hq with h9 | h9
  · exact hS q h9
  · cases List.mem_singleton.mp h9
    exact hW.lo hG he
theorem pv_objInit {a index : Nat} (hc : OK X cc own ht) (hlink : Cond.methodLink own index Lib.objectInit ∈ lw_all) (hinst : Cond.instanceMethod Lib.objectInit ∈ lw_all) (hcode : Cond.code Lib.objectInit ⟨#[0xb1]⟩ 1 none ∈ lw_all) (hht : 1 ≤ ht) (hst : (st.map fun v => v.category).sum ≤ 8) (d : decode cc pc = .ok (.invokespecial index, 3)) (h : V X k n G L st (pc + 3)) : V X k n G L (.ref a :: st) pc := fun hk hn H locs ls hW hS hl =>
  W.objInit hc.1 hc.2.1 hc.2.2.2.1 (hc.2.2.2.2.1 _ hlink) (hc.2.2.2.2.1 _ hinst) (hc.2.2.2.2.1 _ hcode) rfl (by rw [hc.2.2.1]; exact hl.1) rfl d (by rw [hc.2.2.2.2.2.2.2.1]; exact hht) (by rw [hc.2.2.2.2.2.2.2.2]; show 2 * 0 + _ + 12 ≤ _; omega) (h hk hn H locs ls hW hS hl)
theorem pv_callI {y : MethodName} {bytes : ByteArray} {maxL hy index nA mc ms b : Nat} {As T0 : List Value} {G1 : Wd} (hc : OK X cc own ht) (hM : MTa (xl X) (xg X) y bytes maxL none hy mc ms G (.ref b :: As) none G1) (hl : Cond.methodLink own index y ∈ lw_all) (hin : Cond.instanceMethod y ∈ lw_all) (hini : Cond.initialized y.cls ∈ lw_all) (hcode : Cond.code y bytes maxL none ∈ lw_all) (hy1 : y.name = "<init>") (hd : y.cls ≠ "java/lang/invoke/MethodHandle" ∧ y.cls ≠ "java/lang/invoke/VarHandle" ∧ (parseMethodDescriptor y.desc).map (fun d => d.parameters.length) = some nA) (hh : hy < ht ∧ maxL ≤ 45) (hn : As.length = nA) (hs : T0 = As.reverse ++ .ref b :: st) (hst : (st.map fun v => v.category).sum ≤ 8) (d : decode cc pc = .ok (.invokespecial index, 3)) (hcap : k + mc ≤ (xR X).cells ∧ n + ms ≤ (xR X).slots) (h : V X (k + mc) (n + ms) G1 L st (pc + 3)) : V X k n G L T0 pc := by
  refine pv_back (r := none) rfl (fun H locs ls hW hl' h1 h2 => ?_) hcap h
  have hts := hc.2.2.2.2.1
  have cw := cwI (R := xR X) nA hts (lw_meth hcode) rfl (rm := { frames := hy, cells := mc, slots := ms, locals := 64 * hy }) rfl rfl (hts _ hini) (hts _ hl) (hts _ hin) hy1 hd ⟨by rw [hc.2.2.2.2.2.2.2.1]; exact hh.1, by rw [hc.2.2.2.2.2.2.2.2]; show 8 + (maxL + 11) + 64 * hy ≤ 64 * ht; omega⟩
  exact va_runI (As := As) (rest := st) ⟨hc.1, hc.2.1, hc.2.2.1, hc.2.2.2.1, hts⟩ hM cw ⟨blindPc _ _ _, fun U hU hWm => ⟨rfl, ST.warm hWm hc.2.2.2.2.2.1, by rw [hU]; exact hW⟩⟩ rfl hn hl'.1 hs (lv_room hst) d ⟨h1, h2⟩
theorem pv_callIN {host : String} {y : MethodName} {bytes : ByteArray} {maxL hy index nA mc ms b : Nat} {As T0 : List Value} {G1 : Wd} (hc : OK X cc own ht) (hM : MTa (xl X) (xg X) y bytes maxL none hy mc ms G (.ref b :: As) none G1) (hl : Cond.methodLinkNest own index y host ∈ lw_tbl) (hin : Cond.instanceMethod y ∈ lw_all) (hini : Cond.initialized y.cls ∈ lw_all) (hcode : Cond.code y bytes maxL none ∈ lw_all) (hy1 : y.name = "<init>") (hd : y.cls ≠ "java/lang/invoke/MethodHandle" ∧ y.cls ≠ "java/lang/invoke/VarHandle" ∧ (parseMethodDescriptor y.desc).map (fun d => d.parameters.length) = some nA) (hh : hy < ht ∧ maxL ≤ 45) (hn : As.length = nA) (hs : T0 = As.reverse ++ .ref b :: st) (hst : (st.map fun v => v.category).sum ≤ 8) (d : decode cc pc = .ok (.invokespecial index, 3)) (hcap : k + mc ≤ (xR X).cells ∧ n + ms ≤ (xR X).slots) (h : V X (k + mc) (n + ms) G1 L st (pc + 3)) : V X k n G L T0 pc := by
  refine pv_back (r := none) rfl (fun H locs ls hW hl' h1 h2 => ?_) hcap h
  have hts := hc.2.2.2.2.1
  have cw := va_cnB (R := xR X) nA hts (lw_meth hcode) rfl (rm := { frames := hy, cells := mc, slots := ms, locals := 64 * hy }) rfl rfl (hc.2.2.2.2.2.1.2.1 _ hl rfl) (hts _ hini) hd ⟨by rw [hc.2.2.2.2.2.2.2.1]; exact hh.1, by rw [hc.2.2.2.2.2.2.2.2]; show 8 + (maxL + 11) + 64 * hy ≤ 64 * ht; omega⟩
  exact va_runIN (As := As) (rest := st) ⟨hc.1, hc.2.1, hc.2.2.1, hc.2.2.2.1, hts⟩ hM ⟨cw, hy1, hts _ hin⟩ ⟨blindPc _ _ _, fun U hU hWm => ⟨rfl, ST.warm hWm hc.2.2.2.2.2.1, by rw [hU]; exact hW⟩⟩ rfl hn hl'.1 hs (lv_room hst) d ⟨h1, h2⟩
theorem pv_aaldN {kd a off i0 N : Nat} {r : Rec} {cA : ClassId} {C : String} {f : Nat → Option Nat} {i : Int32} {j : Nat} (hc : OK X cc own ht) (hG : G.2 a = some (kd, r)) (he : (gE (xg X) kd a r)[off]? = some (i0, .inl (cA, N, .inr (.inr (.inr (.inr f)))))) (t0 : Nat) (hty : (gty (xg X))[t0]? = some (cA, .object C)) (hj : vp_in i N ∧ i.toNatClampNeg = j) (d : decode cc pc = .ok (.aaload, 1)) (h : V X k n G L (va_rf (f j) :: st) (pc + 1)) : V X k n G L (.int i :: .ref i0 :: st) pc := by
  obtain ⟨hj, rfl⟩ := hj
  exact fun hk hn H locs ls hW hS hl => va_aldq hc.1 hc.2.1 hc.2.2.2.2.2.1.1 (hW.P hG he) 0 t0 rfl hty hj d (h hk hn H locs ls hW hS hl)
theorem pv_ifnonnull {α : Type} {A B : Option α} {r : α} {x : Option Nat} {off : Int} {tgt : Nat} (hc : OK X cc own ht) (d : decode cc pc = .ok (.ifnonnull off, 3)) (t : (pc : Int) + off = (tgt : Int)) (h : (if x = none then B else A) = some r) (k1 : A = some r → V X k n G L st tgt) (k2 : B = some r → V X k n G L st (pc + 3)) : V X k n G L (va_rf x :: st) pc := by
  intro hk hn H locs ls hW hS hl
  cases x with
  | none => exact lv_ifnonnullN hc.1 hc.2.1 d (k2 (by rw [← h, if_pos rfl]) hk hn H locs ls hW hS hl)
  | some q => exact lv_ifnonnull hc.1 hc.2.1 d t (k1 (by rw [← h, if_neg (by simp)]) hk hn H locs ls hW hS hl)
theorem pv_ifnull {α : Type} {A B : Option α} {r : α} {x : Option Nat} {off : Int} {tgt : Nat} (hc : OK X cc own ht) (d : decode cc pc = .ok (.ifnull off, 3)) (t : (pc : Int) + off = (tgt : Int)) (h : (if x = none then A else B) = some r) (k1 : A = some r → V X k n G L st tgt) (k2 : B = some r → V X k n G L st (pc + 3)) : V X k n G L (va_rf x :: st) pc := by
  intro hk hn H locs ls hW hS hl
  cases x with
  | none => exact lv_ifnullN hc.1 hc.2.1 d t (k1 (by rw [← h, if_pos rfl]) hk hn H locs ls hW hS hl)
  | some q => exact lv_ifnull hc.1 hc.2.1 d (k2 (by rw [← h, if_neg (by simp)]) hk hn H locs ls hW hS hl)
theorem pv_null (hc : OK X cc own ht) (d : decode cc pc = .ok (.aconst_null, 1)) (h : V X k n G L (va_rf none :: st) (pc + 1)) : V X k n G L st pc := fun hk hn H locs ls hW hS hl => lv_null hc.1 hc.2.1 d (h hk hn H locs ls hW hS hl)
/-- a reference laid into an array of references: the object's class is the array's, or can be cast to it -/
theorem pv_aast {kd a off i0 N kd1 a1 off1 v ci : Nat} {r r' s1 : Rec} {cA : ClassId} {E C : String} {T : u_T} {M : Nat} {fs : List Value} {f : Nat → Option Nat} {i : Int32} {j : Nat} (hc : OK X cc own ht) (hG : G.2 a = some (kd, r)) (he : (gE (xg X) kd a r)[off]? = some (i0, .inl (cA, N, .inr (.inr (.inr (.inr f)))))) (t0 : Nat) (hty : (gty (xg X))[t0]? = some (cA, .object E)) (hG1 : G.2 a1 = some (kd1, s1)) (he1 : (gE (xg X) kd1 a1 s1)[off1]? = some (v, .inr (ci, fs))) (hcl : (gcl (xg X))[ci]? = some (C, T, M)) (hca : C = E ∨ va_Nw (.castable C E) (xs X)) (hj : vp_in i N ∧ i.toNatClampNeg = j) (hs : gE (xg X) kd a r' = (gE (xg X) kd a r).set off (i0, .inl (cA, N, .inr (.inr (.inr (.inr (va_up f j (some v)))))))) (d : decode cc pc = .ok (.aastore, 1)) (h : V X k n (wp G a kd r') L st (pc + 1)) : V X k n G L (.ref v :: .int i :: .ref i0 :: st) pc := by
  intro hk hn H locs ls hW hS hl
  obtain ⟨hin, rfl⟩ := hj
  have hK := hc.2.2.2.2.2.1.1
  have hlt : i.toNatClampNeg < N := Nat.not_le.mp fun q => hin (Or.inr q)
  have h0 : ¬ i < 0 := fun q => hin (Or.inl q)
  obtain ⟨r9, hr9, cellV, g1, g2, g3, -⟩ := hW.at hG1 he1
  have hcls := (hK.1 ci _ hcl).2
  obtain ⟨kA, comp, k1, k2, k3, -⟩ := (hK.2 t0 _ hty).2
  obtain ⟨kE, hkE, -⟩ := Vm.findClass_spec k3
  obtain ⟨kC, hkC, hknd⟩ := hcls.2
  have hasg : (xs X).vm.assignable ((gD (xg X)).1 ci) comp = true := by
    rcases hca with rfl | hca
    · have : comp = (gD (xg X)).1 ci := Option.some.inj (k3.symm.trans hcls.1)
      subst this
      exact va_assign hcls
    · obtain ⟨c0, t1, f1, f2, f3⟩ := Cond.castable_spec (va_Nw.use (A := xa X) rfl hca)
      cases hcls.1.symm.trans f1
      cases k3.symm.trans f2
      exact f3
  refine W.aast hc.1 hc.2.1 (hW.at hG he) (fun q h => by cases h) (fun h => by cases h) k1 k2 rfl hkE ⟨h0, by show _ < (arrV _ _ _).slots.size; rw [arrV_size]; exact hlt⟩ g1 (fun q h => by rw [g3] at h; cases h) (by rw [g2]; exact hkC) (by rw [g2]; exact hasg) rfl rfl d fun H1 e z oq => ?_
  refine h hk hn H1 _ ls (hW.set hG he hs z oq ?_) (fun q hq => ?_) hl
  · show H1[i0]? = some (vp_cell _ _)
    rw [e]
    rw [vp_cell_q, vp_cell_q, arrV_store]
    congr 2
    funext q
    by_cases hq : q = i.toNatClampNeg
    · subst hq
      simp [updV, va_up, va_rf]
    · simp [updV, va_up, hq]
  · rcases List.mem_append.mp hq with h9 | h9
    · exact hS q h9
    · cases List.mem_singleton.mp h9
      exact hW.lo hG he
end WR
