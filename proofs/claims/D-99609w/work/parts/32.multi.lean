/-! an array of arrays, made at once: one record of 33 cells -/
set_option maxRecDepth 100000
theorem GW.pushN {g : Gh} {G : Wd} {H H1 : Heap} (h : GW g G H) {kd m : Nat} {r : Rec} (hm : 0 < m) (hz : H1.size = G.1 + m) (ho : ∀ q, q < G.1 → H1[q]? = H[q]?) (hat : ∀ (i : Nat) (q : Nat × va_E), (gE g kd G.1 r)[i]? = some q → G.1 ≤ q.1 ∧ va_at (gD g) (gcl g) q H1) (hN : ((gE g kd G.1 r).map (fun q => q.1)).Nodup) : GW g (wf G G.1 kd r m) H1 := by
  obtain ⟨h1, h0, h2, h3, h4⟩ := h
  have old : ∀ {a k' : Nat} {r' : Rec}, G.2 a = some (k', r') → ∀ {i : Nat} {q : Nat × va_E}, (gE g k' a r')[i]? = some q → q.1 < G.1 := fun ha _ _ hq => by
    have := (((h3 _ _ _ ha).2 _ _ hq).2).lt
    rw [h1] at this
    exact this
  refine ⟨hz, Nat.le_trans h0 (Nat.le_add_right _ _), fun q hq => (ho q (by omega)).trans (h2 q hq), fun a k' r' ha => ?_, fun a k' r' a' k'' r'' i i' q q' ha ha' hq hq' hqq => ?_⟩
  · have ha : (wp G G.1 kd r).2 a = some (k', r') := ha
    by_cases hn : a = G.1
    · subst hn
      rw [wp_at] at ha
      cases ha
      refine ⟨by show G.1 < G.1 + m; omega, fun i q hq => ?_⟩
      obtain ⟨y1, y2⟩ := hat i q hq
      exact ⟨by omega, y2⟩
    · rw [wp_ne hn] at ha
      obtain ⟨y1, y2⟩ := h3 a k' r' ha
      refine ⟨by show a < G.1 + m; omega, fun i q hq => ?_⟩
      obtain ⟨z1, z2⟩ := y2 i q hq
      exact ⟨z1, z2.kept (ho _ (old ha hq))⟩
  · have ha : (wp G G.1 kd r).2 a = some (k', r') := ha
    have ha' : (wp G G.1 kd r).2 a' = some (k'', r'') := ha'
    by_cases hn : a = G.1
    · subst hn
      rw [wp_at] at ha
      cases ha
      by_cases hn' : a' = G.1
      · subst hn'
        rw [wp_at] at ha'
        cases ha'
        refine ⟨rfl, ?_⟩
        have e1 : ((gE g kd G.1 r).map (fun q => q.1))[i]? = some q.1 := by rw [List.getElem?_map, hq]; rfl
        have e2 : ((gE g kd G.1 r).map (fun q => q.1))[i']? = some q.1 := by rw [List.getElem?_map, hq', hqq]; rfl
        exact (List.getElem?_inj (List.getElem?_eq_some_iff.mp e1).1 hN).mp (e1.trans e2.symm)
      · rw [wp_ne hn'] at ha'
        have y1 := old ha' hq'
        have y2 := (hat _ _ hq).1
        omega
    · rw [wp_ne hn] at ha
      by_cases hn' : a' = G.1
      · subst hn'
        rw [wp_at] at ha'
        cases ha'
        have y1 := old ha hq
        have y2 := (hat _ _ hq').1
        omega
      · rw [wp_ne hn'] at ha'
        exact h4 a k' r' a' k'' r'' i i' q q' ha ha' hq hq' hqq
/-- the record of the array 'left': the outer array, 32 rows of 5 ints behind it -/
def encL (κ : Nat → ClassId) (a : Nat) (r : Rec) : va_W := (a, .inl (κ 8, 32, .inr (.inr (.inr (.inr (fun i => some (a + 1 + i))))))) :: (List.range 32).map (fun i => (a + 1 + i, .inl (κ 0, 5, .inl (gA r (200 + i)))))
def OKL (g : Gh) : Prop := (∀ a r, gE g 69 a r = encL (kap g) a r) ∧ ∀ U, gS g U → (Cond.arrayOver (.array .int)).before #[] U = true
theorem outer_arr (c : ClassId) (N h0 : Nat) : ∀ i, Jvm.Free.Multi.outerC c N h0 i = arrV c N (fun j => if j < i then .ref (h0 + 1 + j) else .null) := by
  intro i
  induction i with
  | zero => exact arrV_new c N .null
  | succ i ih =>
    show (Jvm.Free.Multi.outerC c N h0 i).setSlot i (.ref (h0 + 1 + i)) = _
    rw [ih, arrV_store]
    congr 1
    funext j
    by_cases hj : j = i
    · subst hj; simp [updV]
    · by_cases h1 : j < i
      · simp [updV, hj, h1, Nat.lt_succ_of_lt h1]
      · have h2 : ¬ j < i + 1 := by omega
        simp [updV, hj, h1, h2]
theorem arrV_ext {c : ClassId} {N : Nat} {f g : Nat → Value} (h : ∀ j, j < N → f j = g j) : arrV c N f = arrV c N g := by
  unfold arrV
  congr 1
  exact congrArg _ (funext fun j => h j.val j.isLt)
theorem outer_cell (c : ClassId) (h0 : Nat) : Jvm.Free.Multi.outerC c 32 h0 32 = vp_cell c (32, .inr (.inr (.inr (.inr (fun i => some (h0 + 1 + i)))))) := by
  rw [vp_cell_q, outer_arr]
  exact arrV_ext fun j hj => if_pos hj
section ML
variable {X : CX} {cc : ByteArray} {own : String} {ht k n : Nat} {G : Wd} {L : List (Nat × Value)} {st : List Value} {pc : Nat}
theorem pv_multi {index b : Nat} {w1 : Wd} (hw : w1 = wf G G.1 69 r0 33) (hb : b = G.1) (hc : OK X cc own ht) (hL : OKL (xg X)) (hX1 : OKX1 (xg X)) (hclink : Cond.classLink own index "[[I" ∈ lw_all) (harr : Cond.arrayClass .int ∈ lw_all) (hcap : k + 33 ≤ (xR X).cells ∧ n + 192 ≤ (xR X).slots) (d : decode cc pc = .ok (.multianewarray index 2, 4)) (h : V X (k + 33) (n + 192) w1 L (.ref b :: st) (pc + 4)) : V X k n G L (.int 5 :: .int 32 :: st) pc := by
  subst hw; subst hb
  intro hk hn H locs ls hW hS hl T hT Z
  have hts := hc.2.2.2.2.1
  have hK := hc.2.2.2.2.2.1.1
  obtain ⟨vm₁, cA, comp, hWm, hfA, hfC, hO, hI, X1, step⟩ := Z.multianewarray2F hc.1 (ty := .int) (index := index) hc.2.2.2.1 (hts _ hclink) (hL.2 _ hc.2.2.2.2.2.1.2.2.1) (hts _ harr) (g := F0 (xm X) pc ls (.int 5 :: .int 32 :: st)) rfl (by rw [hc.2.1]; exact d) (n := 32) (k := 5) (rest := st) rfl (by decide) (by decide) (by decide) (by decide) (by decide) rfl rfl (by have := hcap.1; show k + (1 + 32) ≤ _; omega) (by have := hcap.2; show n + (32 + 32 * 5) ≤ _; omega)
  have e8 : cA = kap (xg X) 8 := Option.some.inj (hfA.symm.trans (hK.2 8 _ (xt8 hX1)).2)
  have e0 : comp = kap (xg X) 0 := Option.some.inj (hfC.symm.trans (hK.2 0 _ (xt0 hX1)).2)
  subst e8; subst e0
  have hsz : (T.setVm vm₁).heap.size = G.1 := by show T.heap.size = _; rw [hT]; exact hW.1
  have hTs : T.heap.size = G.1 := by rw [hT]; exact hW.1
  obtain ⟨f1, f2, -, -⟩ := Jvm.Free.Multi.fill_facts (T.setVm vm₁) (kap (xg X) 8) (kap (xg X) 0) 32 5 (defaultValue .int) 32
  have hGW : GW (xg X) (wf G G.1 69 r0 33) (Jvm.Free.Multi.fill (T.setVm vm₁) (kap (xg X) 8) (kap (xg X) 0) 32 5 (defaultValue .int) 32).heap := by
    refine hW.pushN (by decide) (by rw [f1, hsz]) (fun q hq => by rw [Jvm.Free.Multi.fill_old (T.setVm vm₁) _ _ 32 5 _ (by rw [hsz]; exact hq) 32]; show T.heap[q]? = _; rw [hT]) (fun i q hq => ?_) ?_
    · rw [hL.1] at hq
      cases i with
      | zero =>
        cases hq
        refine ⟨Nat.le_refl _, ?_⟩
        show (Jvm.Free.Multi.fill _ _ _ _ _ _ _).heap[G.1]? = some _
        rw [← hsz, f2, outer_cell, hsz]
      | succ i =>
        have hq : ((List.range 32).map (fun i => (G.1 + 1 + i, (.inl (kap (xg X) 0, 5, .inl (gA r0 (200 + i))) : va_E))))[i]? = some q := hq
        by_cases hi : i < 32
        · simp [hi] at hq
          subst hq
          refine ⟨by show G.1 ≤ G.1 + 1 + i; omega, ?_⟩
          show (Jvm.Free.Multi.fill _ _ _ _ _ _ _).heap[G.1 + 1 + i]? = some _
          have e := Jvm.Free.Multi.fill_inner (T.setVm vm₁) (kap (xg X) 8) (kap (xg X) 0) 32 5 (defaultValue .int) 32 i hi
          rw [hsz] at e
          rw [e, vp_cell_i]
          exact congrArg some (arrV_new _ _ _)
        · simp [hi] at hq
    · rw [hL.1]
      unfold encL
      simp only [List.map_cons, List.map_map, List.nodup_cons]
      refine ⟨?_, ?_⟩
      · intro hm
        obtain ⟨i, -, hi⟩ := List.mem_map.mp hm
        simp at hi
        omega
      · refine List.Pairwise.map _ ?_ List.nodup_range
        intro a b hab h
        simp at h
        omega
  obtain ⟨t, a1, b1⟩ := h hcap.1 hcap.2 _ locs ls hGW hS hl _ rfl X1
  exact ⟨t, step t (by rw [hTs]; exact a1), b1⟩
end ML
theorem vm_multi {X : CX} {G0 Gf G w1 : Wd} {L L' : List (Nat × Value)} {st st' : List Value} {pc pc' : Nat} (e : w1 = wf G G.1 69 r0 33) (hR : RM X G0 Gf) (row : ((G.1 - G0.1) + 33 ≤ (xR X).cells ∧ 1200 * (G.1 - G0.1) + 192 ≤ (xR X).slots) → V X ((G.1 - G0.1) + 33) (1200 * (G.1 - G0.1) + 192) w1 L' st' pc' → V X (G.1 - G0.1) (1200 * (G.1 - G0.1)) G L st pc) (h : VM X G0 Gf w1 L' st' pc') : VM X G0 Gf G L st pc := by
  have hz : w1.1 = G.1 + 33 := by rw [e]; rfl
  intro hG
  obtain ⟨h1, h2⟩ := h (by omega)
  have e1 : w1.1 - G0.1 = G.1 - G0.1 + 33 := by omega
  rw [e1] at h2
  refine ⟨by omega, ?_⟩
  have hk : (G.1 - G0.1) + 33 ≤ (xR X).cells := by rw [hR.1]; omega
  have hsl : 1200 * (G.1 - G0.1 + 33) ≤ (xR X).slots := by rw [hR.2]; omega
  exact row ⟨hk, by omega⟩ (pv_widen (Nat.le_refl _) (by omega) hk hsl h2)
