/-! rows for the main object's arrays of arrays, texts, ends -/
set_option maxRecDepth 100000
theorem ix_lt {i : Int32} {N j : Nat} (h : vp_in i N ∧ i.toNatClampNeg = j) : j < N := by
  obtain ⟨h1, rfl⟩ := h
  exact Nat.not_le.mp fun q => h1 (Or.inr q)
theorem fin_z {G G1 : Wd} {ro vs : List (Nat × Nat × Rec)} (hro : ∀ u ∈ ro, G.2 u.1 = some u.2) (e : G1 = wz G vs) : G1 = wz G (ro ++ vs) := e.trans (wz_ro hro).symm
def BD3 {α γ δ β : Type} (o : Option (α × γ × δ)) (k : α → γ → δ → Option β) : Option β := match o with | none => none | some x => k x.1 x.2.1 x.2.2
theorem BD3_some {α γ δ β : Type} (x : α) (y : γ) (z : δ) (k : α → γ → δ → Option β) : BD3 (some (x, y, z)) k = k x y z := rfl
theorem BD3_el {α γ δ β : Type} {o : Option (α × γ × δ)} {k : α → γ → δ → Option β} {r : β} (h : BD3 o k = some r) : ∃ x y z, o = some (x, y, z) ∧ k x y z = some r := by
  cases o with
  | none => cases h
  | some x => exact ⟨x.1, x.2.1, x.2.2, rfl, h⟩
def BX2 {α β : Type} (o : Option (Option α × Rec × Rec)) (kx : Rec → Rec → Option β) (k : α → Rec → Rec → Option β) : Option β := match o with | none => none | some (none, s, e) => kx s e | some (some v, s, e) => k v s e
theorem BX2_el {α β : Type} {o : Option (Option α × Rec × Rec)} {kx : Rec → Rec → Option β} {k : α → Rec → Rec → Option β} {r : β} (h : BX2 o kx k = some r) : (∃ s e, o = some (none, s, e) ∧ kx s e = some r) ∨ ∃ v s e, o = some (some v, s, e) ∧ k v s e = some r := by
  match o, h with
  | none, h => cases h
  | some (none, s, e), h => exact Or.inl ⟨s, e, rfl, h⟩
  | some (some v, s, e), h => exact Or.inr ⟨v, s, e, rfl, h⟩
section XI
variable {X : CX} {cc : ByteArray} {own : String} {ht k n : Nat} {G : Wd} {L : List (Nat × Value)} {st : List Value} {pc a : Nat} {r s2 : Rec}
theorem pv_aaldI {kd off i0 N : Nat} {ty : FieldType} {cA : ClassId} {f : Nat → Option Nat} {i : Int32} {j q : Nat} (hc : OK X cc own ht) (hG : G.2 a = some (kd, r)) (he : (gE (xg X) kd a r)[off]? = some (i0, .inl (cA, N, .inr (.inr (.inr (.inr f)))))) (t0 : Nat) (hty : (gty (xg X))[t0]? = some (cA, .array ty)) (hj : vp_in i N ∧ i.toNatClampNeg = j) (hq : f j = some q) (d : decode cc pc = .ok (.aaload, 1)) (h : V X k n G L (.ref q :: st) (pc + 1)) : V X k n G L (.int i :: .ref i0 :: st) pc := by
  intro hk hn H locs ls hW hS hl
  obtain ⟨hin, rfl⟩ := hj
  have hlt : i.toNatClampNeg < N := Nat.not_le.mp fun q => hin (Or.inr q)
  exact W.aald (v := .ref q) (ty := .array ty) hc.1 hc.2.1 (hW.at hG he) ((hc.2.2.2.2.2.1.1.2 t0 _ hty).1 N (fun j => va_rf (f j))) rfl (fun q => by cases q) (by show ¬ (i < 0 ∨ (arrV _ _ _).slots.size ≤ _); rw [arrV_size]; exact hin) (by show (arrV _ _ _).slots[_]? = _; rw [arrV_read _ _ hlt]; show some (va_rf (f _)) = _; rw [hq]; rfl) rfl rfl d (h hk hn H locs ls hW hS hl)
theorem as_rows {i x : Int32} {j q : Nat} {G1 : Wd} (hc : OK X cc own ht) (hM : OKX1 (xg X)) (hG : G.2 a = some (0, r)) (hq : q < 32) (hj : vp_in i 5 ∧ i.toNatClampNeg = j) (e : s2 = sA r (200 + q) j x) (hw : wp G a 0 s2 = G1) (d : decode cc pc = .ok (.iastore, 1)) (h : V X k n G1 L st (pc + 1)) : V X k n G L (.int x :: .int i :: .ref (a + 34 + q) :: st) pc := by
  refine pv_iast hc hG (v_rows hM hq) 0 (xt0 hM) hj (r' := s2) ?_ d (by rw [hw]; exact h)
  subst e
  rw [xenc hM, xenc hM, Nat.add_comm 17 q]
  refine List.ext_getElem? fun m => ?_
  rw [List.getElem?_set]
  by_cases hm : q + 17 = m
  · subst hm
    rw [if_pos rfl, if_pos (by simp [encX]; omega)]
    have h1 := v_rows (a := a) (r := sA r (200 + q) j x) hM hq
    rw [xenc hM, Nat.add_comm 17 q] at h1
    rw [h1]
    simp [gA_sA]
  · rw [if_neg hm]
    have hk : ∀ k, k ≠ 200 + q → gA (sA r (200 + q) j x) k = gA r k := fun k hk => by rw [gA_sA, if_neg hk]
    by_cases h17 : m < 17
    · have : m = 0 ∨ m = 1 ∨ m = 2 ∨ m = 3 ∨ m = 4 ∨ m = 5 ∨ m = 6 ∨ m = 7 ∨ m = 8 ∨ m = 9 ∨ m = 10 ∨ m = 11 ∨ m = 12 ∨ m = 13 ∨ m = 14 ∨ m = 15 ∨ m = 16 := by omega
      rcases this with rfl | rfl | rfl | rfl | rfl | rfl | rfl | rfl | rfl | rfl | rfl | rfl | rfl | rfl | rfl | rfl | rfl <;> simp [encX, gI_sA, gJ_sA, gP_sA, gQ_sA] <;> exact hk _ (by omega)
    · obtain ⟨z, rfl⟩ : ∃ z, m = z + 17 := ⟨m - 17, by omega⟩
      by_cases hz : z < 32
      · have h1 := v_rows (a := a) (r := sA r (200 + q) j x) hM hz
        have h2 := v_rows (a := a) (r := r) hM hz
        rw [xenc hM, Nat.add_comm 17 z] at h1 h2
        rw [h1, h2, hk _ (by omega)]
      · have l1 : (encX (kap (xg X)) (gN (xg X)) a (sA r (200 + q) j x)).length = 49 := by simp [encX]
        have l2 : (encX (kap (xg X)) (gN (xg X)) a r).length = 49 := by simp [encX]
        rw [List.getElem?_eq_none (by omega), List.getElem?_eq_none (by omega)]
theorem px_backRi {T0 : List Value} {mc ms fa : Nat} {E0 : String} {v : Int32} {G1 : Wd} (hM : ∀ (H : Heap) (locs : List Loc) (ls : Array Slot), GW (xg X) G H → lv_has ls (xn X) L → k + mc ≤ (xR X).cells → n + ms ≤ (xR X).slots → vy_Run (xp X) (xl X) (xe X) (xR X) (xs X) (xm X) (xa X) (xb X) (xt X) (xc X) H locs k n mc ms (F0 (xm X) pc ls T0) st (QfX (xg X) (some (some (.int v))) G1 (xa X)) (XfX (xg X) fa E0 (some (some (.int v))) G1) (fun q => gb (xg X) ≤ q)) (hcap : k + mc ≤ (xR X).cells ∧ n + ms ≤ (xR X).slots) (h : V X (k + mc) (n + ms) G1 L (.int v :: st) (pc + 3)) : V X k n G L T0 pc := px_backR hM hcap h
theorem px_backRl {T0 : List Value} {mc ms fa : Nat} {E0 : String} {v : Int64} {G1 : Wd} (hM : ∀ (H : Heap) (locs : List Loc) (ls : Array Slot), GW (xg X) G H → lv_has ls (xn X) L → k + mc ≤ (xR X).cells → n + ms ≤ (xR X).slots → vy_Run (xp X) (xl X) (xe X) (xR X) (xs X) (xm X) (xa X) (xb X) (xt X) (xc X) H locs k n mc ms (F0 (xm X) pc ls T0) st (QfX (xg X) (some (some (.long v))) G1 (xa X)) (XfX (xg X) fa E0 (some (some (.long v))) G1) (fun q => gb (xg X) ≤ q)) (hcap : k + mc ≤ (xR X).cells ∧ n + ms ≤ (xR X).slots) (h : V X (k + mc) (n + ms) G1 L (.long v :: st) (pc + 3)) : V X k n G L T0 pc := px_backR hM hcap h
theorem px_backRa {T0 : List Value} {mc ms fa : Nat} {E0 : String} {v : Nat} {G1 : Wd} (hM : ∀ (H : Heap) (locs : List Loc) (ls : Array Slot), GW (xg X) G H → lv_has ls (xn X) L → k + mc ≤ (xR X).cells → n + ms ≤ (xR X).slots → vy_Run (xp X) (xl X) (xe X) (xR X) (xs X) (xm X) (xa X) (xb X) (xt X) (xc X) H locs k n mc ms (F0 (xm X) pc ls T0) st (QfX (xg X) (some (some (.ref v))) G1 (xa X)) (XfX (xg X) fa E0 (some (some (.ref v))) G1) (fun q => gb (xg X) ≤ q)) (hcap : k + mc ≤ (xR X).cells ∧ n + ms ≤ (xR X).slots) (h : V X (k + mc) (n + ms) G1 L (.ref v :: st) (pc + 3)) : V X k n G L T0 pc := px_backR hM hcap h
theorem px_backRv {T0 : List Value} {mc ms fa : Nat} {E0 : String} {G1 : Wd} (hM : ∀ (H : Heap) (locs : List Loc) (ls : Array Slot), GW (xg X) G H → lv_has ls (xn X) L → k + mc ≤ (xR X).cells → n + ms ≤ (xR X).slots → vy_Run (xp X) (xl X) (xe X) (xR X) (xs X) (xm X) (xa X) (xb X) (xt X) (xc X) H locs k n mc ms (F0 (xm X) pc ls T0) st (QfX (xg X) (some none) G1 (xa X)) (XfX (xg X) fa E0 (some none) G1) (fun q => gb (xg X) ≤ q)) (hcap : k + mc ≤ (xR X).cells ∧ n + ms ≤ (xR X).slots) (h : V X (k + mc) (n + ms) G1 L st (pc + 3)) : V X k n G L T0 pc := px_backR hM hcap h
theorem pv_str {tx : String} {index q : Nat} (hc : OK X cc own ht) (hZ : vk_R own index tx q (xs X)) (d : decode cc pc = .ok (.ldc index, 2)) (h : V X k n G L (.ref q :: st) (pc + 2)) : V X k n G L st pc := fun hk hn H locs ls hW hS hl => va_ldcS hc.1 hc.2.1 hc.2.2.2.1 hZ d (h hk hn H locs ls hW hS hl)
theorem st_length_X5 {i : Nat} (hc : OK X cc RX5 ht) (hM : OKX1 (xg X)) (hi : i < 41) (hh : 3 < ht) (hst : (st.map fun v => v.category).sum ≤ 8) (d : decode cc pc = .ok (.invokevirtual 67, 3)) (h : V X k n G L (.int (nI (slen i)) :: st) (pc + 3)) : V X k n G L (.ref (gN (xg X) (2 * i)) :: st) pc := fun hk hn => pv_callO (nA := 0) hc (str_length (okY hM) (sa_of hM hi)) (fun H hW => (sa_of hM hi H hW _ _ hc.2.2.2.2.2.1 hc.2.2.2.2.1).1) (lw_V q701 q702 q703 q122 q704) (by decide +kernel) ⟨by omega, by decide⟩ rfl rfl hst d ⟨hk, hn⟩ h hk hn
theorem st_charAt_X5 {i j : Nat} {x : Int32} (hc : OK X cc RX5 ht) (hM : OKX1 (xg X)) (hi : i < 41) (hj : vp_in x (slen i) ∧ x.toNatClampNeg = j) (hh : 4 < ht) (hst : (st.map fun v => v.category).sum ≤ 8) (d : decode cc pc = .ok (.invokevirtual 72, 3)) (h : V X k n G L (.int (sch i j) :: st) (pc + 3)) : V X k n G L (.int x :: .ref (gN (xg X) (2 * i)) :: st) pc := by
  have e := chr_sch hi (ix_lt hj)
  exact fun hk hn => pv_callO (nA := 1) hc (str_charAt (slen_lt hi) (okY hM) (sa_of hM hi) hj) (fun H hW => (sa_of hM hi H hW _ _ hc.2.2.2.2.2.1 hc.2.2.2.2.1).1) (lw_V q711 q712 q713 q122 q714) (by decide +kernel) ⟨by omega, by decide⟩ rfl rfl hst d ⟨hk, hn⟩ (by rw [e]; exact h) hk hn
theorem st_length_X1 {i : Nat} (hc : OK X cc RX1 ht) (hM : OKX1 (xg X)) (hi : i < 41) (hh : 3 < ht) (hst : (st.map fun v => v.category).sum ≤ 8) (d : decode cc pc = .ok (.invokevirtual 385, 3)) (h : V X k n G L (.int (nI (slen i)) :: st) (pc + 3)) : V X k n G L (.ref (gN (xg X) (2 * i)) :: st) pc := fun hk hn => pv_callO (nA := 0) hc (str_length (okY hM) (sa_of hM hi)) (fun H hW => (sa_of hM hi H hW _ _ hc.2.2.2.2.2.1 hc.2.2.2.2.1).1) (lw_V q1092 q702 q703 q122 q704) (by decide +kernel) ⟨by omega, by decide⟩ rfl rfl hst d ⟨hk, hn⟩ h hk hn
theorem st_charAt_X1 {i j : Nat} {x : Int32} (hc : OK X cc RX1 ht) (hM : OKX1 (xg X)) (hi : i < 41) (hj : vp_in x (slen i) ∧ x.toNatClampNeg = j) (hh : 4 < ht) (hst : (st.map fun v => v.category).sum ≤ 8) (d : decode cc pc = .ok (.invokevirtual 387, 3)) (h : V X k n G L (.int (sch i j) :: st) (pc + 3)) : V X k n G L (.int x :: .ref (gN (xg X) (2 * i)) :: st) pc := by
  have e := chr_sch hi (ix_lt hj)
  exact fun hk hn => pv_callO (nA := 1) hc (str_charAt (slen_lt hi) (okY hM) (sa_of hM hi) hj) (fun H hW => (sa_of hM hi H hW _ _ hc.2.2.2.2.2.1 hc.2.2.2.2.1).1) (lw_V q1093 q712 q713 q122 q714) (by decide +kernel) ⟨by omega, by decide⟩ rfl rfl hst d ⟨hk, hn⟩ (by rw [e]; exact h) hk hn
end XI
