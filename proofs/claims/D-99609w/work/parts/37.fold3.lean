/-! some records become one, others stay -/
set_option maxRecDepth 100000
theorem GW.fold3 {g : Gh} {G : Wd} {n h kd : Nat} {H : Heap} {us B : List (Nat × Nat × Rec)} {r : Rec} {ad bd : List Nat} (hW : GW g (wq G n us) H) (hn : ad.Nodup) (hm : us.map (fun u => u.1) = ad) (hlt : h < n) (hge : ∀ a ∈ ad, h ≤ a) (hfr : ∀ (a k' : Nat) (r' : Rec), G.2 a = some (k', r') → a ≤ h) (hbm : B.map (fun u => u.1) = bd) (hbn : (h :: bd).Nodup) (hB : ∀ u ∈ B, u ∈ us) (hE : ∀ q ∈ gE g kd h r, ∃ u ∈ us, u.1 ∉ bd ∧ q ∈ gE g u.2.1 u.1 u.2.2) (hN : ((gE g kd h r).map (fun q => q.1)).Nodup) : GW g (wq G n ((h, kd, r) :: B)) H := by
  obtain ⟨h1, h0, h2, h3, h4⟩ := hW
  have hm9 : ((h, kd, r) :: B).map (fun u => u.1) = h :: bd := by rw [List.map_cons, hbm]
  have at1 : (wq G n ((h, kd, r) :: B)).2 h = some (kd, r) := wq_at hbn hm9 0 rfl
  have old : ∀ u ∈ us, (wq G n us).2 u.1 = some u.2 := fun u hu => by
    obtain ⟨i, hi⟩ := List.getElem?_of_mem hu
    exact wq_at hn hm i hi
  have cls : ∀ {a k' : Nat} {r' : Rec}, (wq G n ((h, kd, r) :: B)).2 a = some (k', r') → (a = h ∧ k' = kd ∧ r' = r) ∨ (a ≠ h ∧ (wq G n us).2 a = some (k', r') ∧ (a ∈ bd ∨ a < h)) := by
    intro a k' r' ha
    by_cases hah : a = h
    · subst hah
      rw [at1] at ha
      cases ha
      exact Or.inl ⟨rfl, rfl, rfl⟩
    · right
      refine ⟨hah, ?_⟩
      by_cases hb : a ∈ bd
      · rw [← hbm] at hb
        obtain ⟨u, hu, rfl⟩ := List.mem_map.mp hb
        obtain ⟨i, hi⟩ := List.getElem?_of_mem hu
        have e : (wq G n ((h, kd, r) :: B)).2 u.1 = some u.2 := wq_at hbn hm9 (i + 1) (by rw [List.getElem?_cons_succ]; exact hi)
        rw [e] at ha
        exact ⟨(old u (hB u hu)).trans ha, Or.inl (by rw [← hbm]; exact hb)⟩
      · have e : (wq G n ((h, kd, r) :: B)).2 a = G.2 a := wz_out (by rw [hm9]; simp only [List.mem_cons, not_or]; exact ⟨hah, hb⟩)
        rw [e] at ha
        have hlt9 := hfr a k' r' ha
        have hna : a ∉ us.map (fun u => u.1) := fun hmem => by
          rw [hm] at hmem
          have := hge a hmem
          omega
        exact ⟨(wz_out hna).trans ha, Or.inr (by omega)⟩
  have src : ∀ {i : Nat} {q : Nat × va_E}, (gE g kd h r)[i]? = some q → ∃ (a k' : Nat) (r' : Rec) (j : Nat), (wq G n us).2 a = some (k', r') ∧ (gE g k' a r')[j]? = some q ∧ h ≤ a ∧ a ∉ bd := by
    intro i q hq
    obtain ⟨⟨a, k', r'⟩, hu, hub, hq'⟩ := hE q (List.mem_of_getElem? hq)
    obtain ⟨j, hj⟩ := List.getElem?_of_mem hq'
    exact ⟨a, k', r', j, old _ hu, hj, hge a (by rw [← hm]; exact List.mem_map.mpr ⟨_, hu, rfl⟩), hub⟩
  refine ⟨h1, h0, h2, fun a k' r' ha => ?_, fun a k' r' a' k'' r'' i i' q q' ha ha' hq hq' hqq => ?_⟩
  · rcases cls ha with ⟨rfl, rfl, rfl⟩ | ⟨-, ha, -⟩
    · refine ⟨hlt, fun i q hq => ?_⟩
      obtain ⟨b, kb, rb, j, y1, y2, -⟩ := src hq
      exact (h3 b kb rb y1).2 j q y2
    · exact h3 a k' r' ha
  · rcases cls ha with ⟨rfl, rfl, rfl⟩ | ⟨hne, hA, hx⟩
    · obtain ⟨b, kb, rb, j, y1, y2, y3, y4⟩ := src hq
      rcases cls ha' with ⟨rfl, rfl, rfl⟩ | ⟨hne', ha', hx'⟩
      · refine ⟨rfl, ?_⟩
        have e1 : ((gE g k'' a' r'').map (fun q => q.1))[i]? = some q.1 := by rw [List.getElem?_map, hq]; rfl
        have e2 : ((gE g k'' a' r'').map (fun q => q.1))[i']? = some q.1 := by rw [List.getElem?_map, hq', hqq]; rfl
        exact (List.getElem?_inj (List.getElem?_eq_some_iff.mp e1).1 hN).mp (e1.trans e2.symm)
      · obtain ⟨w1, -⟩ := h4 b kb rb a' k'' r'' j i' q q' y1 ha' y2 hq' hqq
        subst w1
        rcases hx' with hx' | hx'
        · exact absurd hx' y4
        · omega
    · rcases cls ha' with ⟨rfl, rfl, rfl⟩ | ⟨hne', ha', hx'⟩
      · obtain ⟨b, kb, rb, j, y1, y2, y3, y4⟩ := src hq'
        obtain ⟨w1, -⟩ := h4 a k' r' b kb rb i j q q' hA y1 hq y2 hqq
        subst w1
        rcases hx with hx | hx
        · exact absurd hx y4
        · omega
      · exact h4 a k' r' a' k'' r'' i i' q q' hA ha' hq hq' hqq
