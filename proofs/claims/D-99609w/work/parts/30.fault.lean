/-! the constructor of Fault: nothing is kept in it -/
set_option maxRecDepth 100000
theorem zq_rf {C n d : String} {A : Nat → Prop} {U : State} {H : Heap} (h : va_Zq C n d A U H) : ∃ o : Option Nat, va_Z C n d (va_rf o) A U H := by
  rcases h with h | ⟨t, h⟩
  · exact ⟨none, h⟩
  · exact ⟨some t, h⟩
theorem sP_none (j : Nat) : sP r0 j none = r0 := by
  unfold sP r0
  congr 5
  funext k
  by_cases h : k = j <;> simp [va_up, h]
theorem sP_sP (r : Rec) (j : Nat) (x y : Option Nat) : sP (sP r j x) j y = sP r j y := by
  unfold sP
  congr 5
  funext k
  by_cases h : k = j <;> simp [va_up, h]
theorem sP_sw (r : Rec) {j i : Nat} (x y : Option Nat) (h : j ≠ i) : sP (sP r j x) i y = sP (sP r i y) j x := by
  unfold sP
  congr 5
  funext k
  by_cases h1 : k = i
  · subst h1; simp [va_up, Ne.symm h]
  · by_cases h2 : k = j <;> simp [va_up, h1, h2, h]
section FA
variable {X : CX} {cc : ByteArray} {own : String} {ht k n : Nat} {G : Wd} {L : List (Nat × Value)} {st : List Value} {pc : Nat}
theorem pv_aload_nN (j : Nat) {q : Fin 4} {i : Nat} (hc : OK X cc own ht) (d : decode cc pc = .ok (.aload_n q, 1)) (hi : (q : Nat) = i) (hL : L[j]? = some (i, .null)) (h : V X k n G L (.null :: st) (pc + 1)) : V X k n G L st pc := fun hk hn H locs ls hG hS hl => lv_aload_nN hc.1 hc.2.1 d hi (lv_at hl j hL) (h hk hn H locs ls hG hS hl)
end FA
theorem j0_init2_ok {l : Launch} {g : Gh} {G : Wd} {q : Nat} (hRw : OKRw g) (hX1 : OKX1 g) (hZ : OKZ g) (hG : G.2 q = some (101, r0)) : MT l g yJ0_init_2 cJ0_init_2 5 none 2 G [.ref q, .null, .null, .int 0, .int 0] none G := by
  refine pv_start (by decide) (Nat.le_of_ble_eq_true rfl) ?_
  intro X hl hg hN hc hr _ _ _ hQ
  subst hl; subst hg
  obtain ⟨o1, z1⟩ := zq_rf (hZ _ hc.2.2.2.2.2.1.2.2.1).1.1
  obtain ⟨o2, z2⟩ := zq_rf (hZ _ hc.2.2.2.2.2.1.2.2.1).2.1
  show V X 0 0 _ [(0, .ref q), (1, .null), (2, .null), (3, .int 0), (4, .int 0)] [] 0
  refine pv_G (wp_id hG) ?_
  refine pv_aload_n 0 hc dJ0_init_2_0 rfl rfl ?_
  refine pv_objInit hc q173 q148 q149 (by decide) (Nat.le_of_ble_eq_true rfl) dJ0_init_2_1 ?_
  refine pv_aload_n 0 hc dJ0_init_2_4 rfl rfl ?_
  refine pv_aload_n 0 hc dJ0_init_2_5 rfl rfl ?_
  refine pr_J0_7_101 (x := some q) hc hRw hX1 (wp_at _ _ _ _) rfl (wp_wp _ _ _ _ _ _) dJ0_init_2_6 ?_
  refine pv_aload_n 0 hc dJ0_init_2_9 rfl rfl ?_
  refine pv_getZ hc z1 q174 (fun _ h => h) dJ0_init_2_10 ?_
  refine pr_J0_17_101 (x := o1) hc hRw hX1 (wp_at _ _ _ _) rfl (wp_wp _ _ _ _ _ _) dJ0_init_2_13 ?_
  refine pv_aload_n 0 hc dJ0_init_2_16 rfl rfl ?_
  refine pv_getZ hc z2 q176 (fun _ h => h) dJ0_init_2_17 ?_
  refine pr_J0_24_101 (x := o2) hc hRw hX1 (wp_at _ _ _ _) rfl (wp_wp _ _ _ _ _ _) dJ0_init_2_20 ?_
  refine pv_iload 4 hc dJ0_init_2_23 rfl ?_
  refine pv_if_eq (tgt := 36) (A := some ()) (B := none) (r := ()) hc dJ0_init_2_25 (by decide) (by decide) (fun _ => ?_) (fun h => by cases h)
  refine pv_aload_n 0 hc dJ0_init_2_36 rfl rfl ?_
  refine pv_null hc dJ0_init_2_37 ?_
  refine pr_J0_17_101 (x := none) hc hRw hX1 (wp_at _ _ _ _) rfl (wp_wp _ _ _ _ _ _) dJ0_init_2_38 ?_
  refine pv_aload_n 0 hc dJ0_init_2_41 rfl rfl ?_
  refine pv_aload_nN 1 hc dJ0_init_2_42 rfl rfl ?_
  refine pr_J0_31_101 (x := none) hc hRw hX1 (wp_at _ _ _ _) rfl (wp_wp _ _ _ _ _ _) dJ0_init_2_43 ?_
  refine pv_aload_n 0 hc dJ0_init_2_46 rfl rfl ?_
  refine pv_aload_nN 2 hc dJ0_init_2_47 rfl rfl ?_
  refine pr_J0_7_101 (x := none) hc hRw hX1 (wp_at _ _ _ _) rfl (wp_wp _ _ _ _ _ _) dJ0_init_2_48 ?_
  refine pv_iload_n 3 hc dJ0_init_2_51 rfl rfl ?_
  refine pv_if_ne (tgt := 60) (A := none) (B := some ()) (r := ()) hc dJ0_init_2_52 (by decide) (by decide) (fun h => by cases h) (fun _ => ?_)
  refine pv_aload_n 0 hc dJ0_init_2_55 rfl rfl ?_
  refine pv_null hc dJ0_init_2_56 ?_
  refine pr_J0_24_101 (x := none) hc hRw hX1 (wp_at _ _ _ _) rfl (wp_wp _ _ _ _ _ _) dJ0_init_2_57 ?_
  refine pv_vret hc hr hQ rfl ?_ dJ0_init_2_60
  have e : sP (sP (sP (sP (sP (sP (sP r0 0 (some q)) 1 o1) 2 o2) 1 none) 3 none) 0 none) 2 none = r0 := by
    rw [sP_sw (sP (sP r0 0 (some q)) 1 o1) o2 none (by decide : (2 : Nat) ≠ 1), sP_sP, sP_sw _ o2 none (by decide : (2 : Nat) ≠ 3), sP_sw _ o2 none (by decide : (2 : Nat) ≠ 0), sP_sP, sP_sw (sP r0 0 (some q)) none none (by decide : (1 : Nat) ≠ 3), sP_sw (sP (sP r0 0 (some q)) 3 none) none none (by decide : (1 : Nat) ≠ 0), sP_sw (sP r0 0 (some q)) none none (by decide : (3 : Nat) ≠ 0), sP_sP, sP_none, sP_none, sP_none, sP_none]
  rw [e]
  exact (wp_id hG).symm
theorem j1_init_ok {l : Launch} {g : Gh} {G : Wd} {q : Nat} (hRw : OKRw g) (hX1 : OKX1 g) (hZ : OKZ g) (hG : G.2 q = some (101, r0)) : MT l g yJ1_init cJ1_init 5 none 3 G [.ref q, .null, .null, .int 0, .int 0] none G := by
  refine pv_start (by decide) (Nat.le_of_ble_eq_true rfl) ?_
  intro X hl hg hN hc hr _ _ _ hQ
  subst hl; subst hg
  show V X 0 0 _ [(0, .ref q), (1, .null), (2, .null), (3, .int 0), (4, .int 0)] [] 0
  refine pv_aload_n 0 hc dJ1_init_0 rfl rfl ?_
  refine pv_aload_nN 1 hc dJ1_init_1 rfl rfl ?_
  refine pv_aload_nN 2 hc dJ1_init_2 rfl rfl ?_
  refine pv_iload_n 3 hc dJ1_init_3 rfl rfl ?_
  refine pv_iload 4 hc dJ1_init_4 rfl ?_
  refine fun hk hn => pv_callI (nA := 4) (As := [.null, .null, .int 0, .int 0]) hc (j0_init2_ok hRw hX1 hZ hG) q194 q195 q110 q196 rfl (by decide +kernel) ⟨by decide, by decide⟩ rfl rfl (Nat.le_of_ble_eq_true rfl) dJ1_init_6 ⟨hk, hn⟩ ?_ hk hn
  exact pv_vret hc hr hQ rfl rfl dJ1_init_9
theorem x2_init_ok {l : Launch} {g : Gh} {G : Wd} {q : Nat} (hRw : OKRw g) (hX1 : OKX1 g) (hZ : OKZ g) (hG : G.2 q = some (101, r0)) : MT l g yX2_init cX2_init 1 none 4 G [.ref q] none G := by
  refine pv_start (by decide) (Nat.le_of_ble_eq_true rfl) ?_
  intro X hl hg hN hc hr _ _ _ hQ
  subst hl; subst hg
  show V X 0 0 _ [(0, .ref q)] [] 0
  refine pv_aload_n 0 hc dX2_init_0 rfl rfl ?_
  refine pv_null hc dX2_init_1 ?_
  refine pv_null hc dX2_init_2 ?_
  refine pv_iconst (0 : Int32) hc dX2_init_3 rfl ?_
  refine pv_iconst (0 : Int32) hc dX2_init_4 rfl ?_
  refine fun hk hn => pv_callI (nA := 4) (As := [.null, .null, .int 0, .int 0]) hc (j1_init_ok hRw hX1 hZ hG) q191 q192 q111 q193 rfl (by decide +kernel) ⟨by decide, by decide⟩ rfl rfl (Nat.le_of_ble_eq_true rfl) dX2_init_5 ⟨hk, hn⟩ ?_ hk hn
  exact pv_vret hc hr hQ rfl rfl dX2_init_8
