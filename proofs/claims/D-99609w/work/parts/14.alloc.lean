/-! NEW CELLS: a new record at the heap's end; several records that become one -/
set_option maxRecDepth 100000
/-- a new record of one cell -/
def wn (G : Wd) (kd : Nat) (r : Rec) : Wd := (G.1 + 1, (wp G G.1 kd r).2)
/-- n cells, and these records over the ghost heap -/
def wq (G : Wd) (n : Nat) (us : List (Nat × Nat × Rec)) : Wd := (n, (wz G us).2)
theorem wz_sz (us : List (Nat × Nat × Rec)) : ∀ G : Wd, (wz G us).1 = G.1 := by
  induction us with
  | nil => intro G; rfl
  | cons u us ih => intro G; exact ih _
theorem wz_2 (us : List (Nat × Nat × Rec)) : ∀ {G G' : Wd}, G.2 = G'.2 → (wz G us).2 = (wz G' us).2 := by
  induction us with
  | nil => intro G G' h; exact h
  | cons u us ih =>
    intro G G' h
    refine ih ?_
    show (wp G u.1 u.2.1 u.2.2).2 = (wp G' u.1 u.2.1 u.2.2).2
    unfold wp
    simp only [h]
theorem wn_wq {G : Wd} {n kd : Nat} {us us' : List (Nat × Nat × Rec)} {r : Rec} (h : us ++ [(n, kd, r)] = us') : wn (wq G n us) kd r = wq G (n + 1) us' := by
  subst h
  show (n + 1, (wp (n, (wz G us).2) n kd r).2) = (n + 1, (wz G (us ++ [(n, kd, r)])).2)
  rw [wz_app]
  show _ = (n + 1, (wp (wz G us) n kd r).2)
  unfold wp
  rfl
theorem wn_0 {G : Wd} {n kd : Nat} {r : Rec} (h : G.1 = n) : wn G kd r = wq G (n + 1) [(n, kd, r)] := by
  subst h; rfl
theorem wq_at {G : Wd} {n : Nat} {us : List (Nat × Nat × Rec)} {ad : List Nat} (hn : ad.Nodup) (hm : us.map (fun u => u.1) = ad) (i : Nat) {a kd : Nat} {r : Rec} (h : us[i]? = some (a, kd, r)) : (wq G n us).2 a = some (kd, r) := wz_at hn hm i h
theorem wq_set {G : Wd} {n : Nat} {us us' : List (Nat × Nat × Rec)} {ad : List Nat} (hn : ad.Nodup) (hm : us.map (fun u => u.1) = ad) (i : Nat) {a kd kd' : Nat} {r r' : Rec} (h : us[i]? = some (a, kd, r)) (hs : us.set i (a, kd', r') = us') : wp (wq G n us) a kd' r' = wq G n us' := by
  have e := wz_set (G := G) hn hm i h hs
  show (n, (wp (n, (wz G us).2) a kd' r').2) = (n, (wz G us').2)
  rw [← e]
  unfold wp
  rfl
theorem wq_0 (G : Wd) : wq G G.1 [] = G := rfl
theorem GW.push {g : Gh} {G : Wd} {H H1 : Heap} (h : GW g G H) {kd : Nat} {r : Rec} {e : va_E} (hE : gE g kd G.1 r = [(G.1, e)]) (hz : H1.size = G.1 + 1) (ho : ∀ q, q < G.1 → H1[q]? = H[q]?) (hat : va_at (gD g) (gcl g) (G.1, e) H1) : GW g (wn G kd r) H1 := by
  obtain ⟨h1, h0, h2, h3, h4⟩ := h
  have old : ∀ {a k' : Nat} {r' : Rec}, G.2 a = some (k', r') → ∀ {i : Nat} {q : Nat × va_E}, (gE g k' a r')[i]? = some q → q.1 < G.1 := fun ha _ _ hq => by
    have := (((h3 _ _ _ ha).2 _ _ hq).2).lt
    rw [h1] at this
    exact this
  have one : ∀ {i : Nat} {q : Nat × va_E}, (gE g kd G.1 r)[i]? = some q → i = 0 ∧ q = (G.1, e) := by
    intro i q hq
    rw [hE] at hq
    match i, hq with
    | 0, hq => cases hq; exact ⟨rfl, rfl⟩
    | i + 1, hq => cases hq
  refine ⟨hz, Nat.le_succ_of_le h0, fun q hq => (ho q (by omega)).trans (h2 q hq), fun a k' r' ha => ?_, fun a k' r' a' k'' r'' i i' q q' ha ha' hq hq' hqq => ?_⟩
  · by_cases hn : a = G.1
    · subst hn
      have ha : (wp G G.1 kd r).2 G.1 = some (k', r') := ha
      rw [wp_at] at ha
      cases ha
      refine ⟨Nat.lt_succ_self _, fun i q hq => ?_⟩
      obtain ⟨-, rfl⟩ := one hq
      exact ⟨h0, hat⟩
    · have ha : (wp G G.1 kd r).2 a = some (k', r') := ha
      rw [wp_ne hn] at ha
      obtain ⟨y1, y2⟩ := h3 a k' r' ha
      refine ⟨Nat.lt_succ_of_lt y1, fun i q hq => ?_⟩
      obtain ⟨z1, z2⟩ := y2 i q hq
      exact ⟨z1, z2.kept (ho _ (old ha hq))⟩
  · have ha : (wp G G.1 kd r).2 a = some (k', r') := ha
    have ha' : (wp G G.1 kd r).2 a' = some (k'', r'') := ha'
    by_cases hn : a = G.1
    · subst hn
      rw [wp_at] at ha
      cases ha
      obtain ⟨e1, rfl⟩ := one hq
      by_cases hn' : a' = G.1
      · subst hn'
        rw [wp_at] at ha'
        cases ha'
        obtain ⟨e2, -⟩ := one hq'
        exact ⟨rfl, e1.trans e2.symm⟩
      · rw [wp_ne hn'] at ha'
        have := old ha' hq'
        simp at hqq
        omega
    · rw [wp_ne hn] at ha
      by_cases hn' : a' = G.1
      · subst hn'
        rw [wp_at] at ha'
        cases ha'
        obtain ⟨e2, rfl⟩ := one hq'
        have := old ha hq
        simp at hqq
        omega
      · rw [wp_ne hn'] at ha'
        exact h4 a k' r' a' k'' r'' i i' q q' ha ha' hq hq' hqq
/-- records of single cells become one record -/
theorem GW.fold {g : Gh} {G : Wd} {n h kd : Nat} {H : Heap} {us : List (Nat × Nat × Rec)} {r : Rec} {ad : List Nat} (hW : GW g (wq G n us) H) (hn : ad.Nodup) (hm : us.map (fun u => u.1) = ad) (hlt : h < n) (hge : ∀ a ∈ ad, h ≤ a) (hfr : ∀ (a k' : Nat) (r' : Rec), G.2 a = some (k', r') → a ≤ h) (hE : ∀ q ∈ gE g kd h r, ∃ u ∈ us, q ∈ gE g u.2.1 u.1 u.2.2) (hN : ((gE g kd h r).map (fun q => q.1)).Nodup) : GW g (wq G n [(h, kd, r)]) H := by
  obtain ⟨h1, h0, h2, h3, h4⟩ := hW
  have at1 : (wq G n [(h, kd, r)]).2 h = some (kd, r) := wp_at G h kd r
  have ne1 : ∀ {a : Nat}, a ≠ h → (wq G n [(h, kd, r)]).2 a = G.2 a := fun ha => wp_ne ha
  have out : ∀ {a k' : Nat} {r' : Rec}, a ≠ h → G.2 a = some (k', r') → (wq G n us).2 a = some (k', r') := fun {a k' r'} ha hG => by
    have hlt9 := hfr a k' r' hG
    have : a ∉ us.map (fun u => u.1) := fun hmem => by
      rw [hm] at hmem
      have := hge a hmem
      omega
    exact (wz_out this).trans hG
  have src : ∀ {i : Nat} {q : Nat × va_E}, (gE g kd h r)[i]? = some q → ∃ (a k' : Nat) (r' : Rec) (j : Nat), (wq G n us).2 a = some (k', r') ∧ (gE g k' a r')[j]? = some q ∧ h ≤ a := by
    intro i q hq
    obtain ⟨⟨a, k', r'⟩, hu, hq'⟩ := hE q (List.mem_of_getElem? hq)
    obtain ⟨j, hj⟩ := List.getElem?_of_mem hq'
    obtain ⟨i', hi'⟩ := List.getElem?_of_mem hu
    exact ⟨a, k', r', j, wq_at hn hm i' hi', hj, hge a (by rw [← hm]; exact List.mem_map.mpr ⟨_, hu, rfl⟩)⟩
  refine ⟨h1, h0, h2, fun a k' r' ha => ?_, fun a k' r' a' k'' r'' i i' q q' ha ha' hq hq' hqq => ?_⟩
  · by_cases hah : a = h
    · subst hah
      rw [at1] at ha
      cases ha
      refine ⟨hlt, fun i q hq => ?_⟩
      obtain ⟨a', k', r', j, y1, y2, -⟩ := src hq
      exact (h3 a' k' r' y1).2 j q y2
    · rw [ne1 hah] at ha
      exact h3 a k' r' (out hah ha)
  · by_cases hah : a = h
    · subst hah
      rw [at1] at ha
      cases ha
      obtain ⟨b, kb, rb, j, y1, y2, y3⟩ := src hq
      by_cases hah' : a' = a
      · subst hah'
        rw [at1] at ha'
        cases ha'
        refine ⟨rfl, ?_⟩
        have e1 : ((gE g kd a' r).map (fun q => q.1))[i]? = some q.1 := by rw [List.getElem?_map, hq]; rfl
        have e2 : ((gE g kd a' r).map (fun q => q.1))[i']? = some q.1 := by rw [List.getElem?_map, hq', hqq]; rfl
        exact (List.getElem?_inj (List.getElem?_eq_some_iff.mp e1).1 hN).mp (e1.trans e2.symm)
      · rw [ne1 hah'] at ha'
        have hle := hfr _ _ _ ha'
        obtain ⟨w1, -⟩ := h4 b kb rb a' k'' r'' j i' q q' y1 (out hah' ha') y2 hq' hqq
        omega
    · rw [ne1 hah] at ha
      by_cases hah' : a' = h
      · subst hah'
        rw [at1] at ha'
        cases ha'
        obtain ⟨b, kb, rb, j, y1, y2, y3⟩ := src hq'
        have hle := hfr _ _ _ ha
        obtain ⟨w1, -⟩ := h4 a k' r' b kb rb i j q q' (out hah ha) y1 hq y2 hqq
        omega
      · rw [ne1 hah'] at ha'
        exact h4 a k' r' a' k'' r'' i i' q q' (out hah ha) (out hah' ha') hq hq' hqq
section AL
variable {X : CX} {cc : ByteArray} {own : String} {ht k n : Nat} {G : Wd} {L : List (Nat × Value)} {st : List Value} {pc : Nat}
/-- a fact that every heap of this ghost tells -/
theorem pv_fact {φ : Prop} (hf : ∀ H : Heap, GW (xg X) G H → φ) (h : φ → V X k n G L st pc) : V X k n G L st pc := fun hk hn H locs ls hW hS hl => h (hf H hW) hk hn H locs ls hW hS hl
theorem pv_fold {G' : Wd} (hf : ∀ H : Heap, GW (xg X) G H → GW (xg X) G' H) (h : V X k n G' L st pc) : V X k n G L st pc := fun hk hn H locs ls hW hS hl => h hk hn H locs ls (hf H hW) hS hl
theorem pv_new {C : String} {T : u_T} {N ci index kd : Nat} {r : Rec} {fs : List Value} (hc : OK X cc own ht) (hcl : (gcl (xg X))[ci]? = some (C, T, N)) (hin : ∀ w ∈ u_ws C T N, w ∈ lw_all) (ty : Nat → FieldType) (hty : ∀ k, k < N → parseFieldDescriptor (T k).2.2.1 = some (ty k)) (hlink : Cond.classLink own index C ∈ lw_all) (hinst : Cond.instantiable C N ∈ lw_all) (hini : Cond.initialized C ∈ lw_all) (hE : gE (xg X) kd G.1 r = [(G.1, .inr (ci, fs))]) (hfs : ∀ j, j < N → defaultValue (ty j) = vp_V fs j) (hcap : k + 1 ≤ (xR X).cells ∧ n + N ≤ (xR X).slots) (d : decode cc pc = .ok (.new index, 3)) (h : V X (k + 1) (n + N) (wn G kd r) L (.ref G.1 :: st) (pc + 3)) : V X k n G L st pc := by
  intro hk hn H locs ls hW hS hl
  have hts := hc.2.2.2.2.1
  have hKn := hc.2.2.2.2.2.1.1.1 ci _ hcl
  refine W.newcK hc.1 hc.2.1 hc.2.2.2.1 (hts _ hlink) (hts _ hinst) (hts _ hini) rfl d hcap.1 hcap.2 hKn.2.1 hW.1 fun H1 kC hkC e1 z1 o1 => ?_
  exact h hcap.1 hcap.2 H1 locs ls (hW.push hE z1 o1 ⟨_, hcl, (u_born ty hts hin hKn hkC e1 hty).to hfs⟩) hS hl
theorem pv_newa {atype : ArrayType} {ty : FieldType} {kd t0 N : Nat} {r : Rec} {cA : ClassId} {a0 : vp_A} {x : Int32} (hc : OK X cc own ht) (harr : Cond.arrayClass (newarray.typeOf atype) ∈ lw_all) (hty : newarray.typeOf atype = ty) (hprim : ∀ U : State, va_RA U cA ty = (U.vm.findClass ("[" ++ ty.toString) = some cA)) (hT : (gty (xg X))[t0]? = some (cA, ty)) (ha : vp_cell cA a0 = arrV cA N (fun _ => defaultValue ty)) (hE : gE (xg X) kd G.1 r = [(G.1, .inl (cA, a0))]) (hx : ¬ x < 0) (hN : x.toNatClampNeg = N) (hbytes : N * componentBytes ty ≤ 536870912) (hcap : k + 1 ≤ (xR X).cells ∧ n + N ≤ (xR X).slots) (d : decode cc pc = .ok (.newarray atype, 2)) (h : V X (k + 1) (n + N) (wn G kd r) L (.ref G.1 :: st) (pc + 2)) : V X k n G L (.int x :: st) pc := by
  intro hk hn H locs ls hW hS hl
  subst hty
  have hra := (hc.2.2.2.2.2.1.1.2 t0 _ hT).2
  refine va_newaK hc.1 hc.2.1 (hc.2.2.2.2.1 _ harr) rfl d rfl hx hN hbytes hcap.1 hcap.2 hW.1 fun H1 cA' e1 z1 o1 hAr hNm => ?_
  have e9 : cA' = cA := by
    have h9 := hra
    rw [hprim] at h9
    exact Option.some.inj (hNm.symm.trans h9)
  subst e9
  exact h hcap.1 hcap.2 H1 locs ls (hW.push hE z1 o1 (by show H1[G.1]? = some (vp_cell _ _); rw [ha]; exact e1)) hS hl
theorem pv_newq {C : String} {index kd t0 N : Nat} {r : Rec} {cA : ClassId} {x : Int32} (hc : OK X cc own ht) (hlink : Cond.classLink own index C ∈ lw_all) (hover : va_AO C (xs X)) (hT : (gty (xg X))[t0]? = some (cA, .object C)) (hE : gE (xg X) kd G.1 r = [(G.1, .inl (cA, N, .inr (.inr (.inr (.inr (fun _ => none))))))]) (hx : ¬ x < 0) (hN : x.toNatClampNeg = N) (hbytes : N * 4 ≤ 536870912) (hcap : k + 1 ≤ (xR X).cells ∧ n + N ≤ (xR X).slots) (d : decode cc pc = .ok (.anewarray index, 3)) (h : V X (k + 1) (n + N) (wn G kd r) L (.ref G.1 :: st) (pc + 3)) : V X k n G L (.int x :: st) pc := by
  intro hk hn H locs ls hW hS hl
  subst hN
  obtain ⟨kA0, comp0, r1, r2, r3, r4⟩ : va_RA (xs X) cA (.object C) := (hc.2.2.2.2.2.1.1.2 t0 _ hT).2
  refine W.anew hc.1 hc.2.1 hc.2.2.2.1 (hc.2.2.2.2.1 _ hlink) (va_AO.use hover) rfl d rfl hx hbytes hcap.1 hcap.2 fun cA' kA comp f1 f2 f3 f4 => ?_
  have e9 : cA' = cA := Option.some.inj (f1.symm.trans r4)
  subst e9
  rw [hW.1]
  refine h hcap.1 hcap.2 _ locs ls (hW.push hE (by rw [Array.size_push, hW.1]) (fun q hq => by rw [Array.getElem?_push, if_neg (by rw [hW.1]; exact Nat.ne_of_lt hq)]) ?_) hS hl
  show (H.push _)[G.1]? = some (vp_cell _ _)
  rw [← hW.1, Array.getElem?_push_size]
  rw [vp_cell_q, arrV_new]
  rfl
end AL
