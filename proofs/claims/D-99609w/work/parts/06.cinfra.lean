/-! MORE ROWS: calls of nest mates, of inherited methods, array copies (own frame, as part infra) -/
set_option maxRecDepth 100000
/-- a whole array of a record -/
def sB (r : Rec) (j : Nat) (f : Nat → Int32) : Rec := (r.1, va_up r.2.1 j f, r.2.2)
theorem gI_sB (r : Rec) (j : Nat) (f : Nat → Int32) (k : Nat) : gI (sB r j f) k = gI r k := rfl
theorem gA_sB (r : Rec) (j : Nat) (f : Nat → Int32) (k : Nat) : gA (sB r j f) k = if k = j then f else gA r k := rfl
theorem gJ_sB (r : Rec) (j : Nat) (f : Nat → Int32) (k : Nat) : gJ (sB r j f) k = gJ r k := rfl
theorem gL_sB (r : Rec) (j : Nat) (f : Nat → Int32) (k : Nat) : gL (sB r j f) k = gL r k := rfl
theorem gP_sB (r : Rec) (j : Nat) (f : Nat → Int32) (k : Nat) : gP (sB r j f) k = gP r k := rfl
theorem gQ_sB (r : Rec) (j : Nat) (f : Nat → Int32) (k : Nat) : gQ (sB r j f) k = gQ r k := rfl
theorem sB_id (r : Rec) (j : Nat) : sB r j (gA r j) = r := by
  obtain ⟨a, b, c⟩ := r
  show (a, va_up b j (b j), c) = (a, b, c)
  have e : va_up b j (b j) = b := by
    funext q
    by_cases h : q = j
    · subst h; simp [va_up]
    · simp [va_up, h]
  rw [e]
theorem sA_sB (r : Rec) (j i : Nat) (v : Int32) (f : Nat → Int32) : sA (sB r j f) j i v = sB r j (va_up f i v) := by
  obtain ⟨a, b, c⟩ := r
  show (a, va_up (va_up b j f) j (va_up ((va_up b j f) j) i v), c) = (a, va_up b j (va_up f i v), c)
  have e : va_up (va_up b j f) j (va_up ((va_up b j f) j) i v) = va_up b j (va_up f i v) := by
    funext q
    by_cases h : q = j
    · subst h; simp [va_up]
    · simp [va_up, h]
  rw [e]
theorem nd1 {a : Nat} : ([a] : List Nat).Nodup := by simp
theorem nd2 {a b : Nat} (h : a ≠ b) : ([a, b] : List Nat).Nodup := by simp [h]
theorem nd3 {a b c : Nat} (h1 : a ≠ b) (h2 : a ≠ c) (h3 : b ≠ c) : ([a, b, c] : List Nat).Nodup := by simp [h1, h2, h3]
theorem nd4 {a b c d : Nat} (h1 : a ≠ b) (h2 : a ≠ c) (h3 : a ≠ d) (h4 : b ≠ c) (h5 : b ≠ d) (h6 : c ≠ d) : ([a, b, c, d] : List Nat).Nodup := by simp [h1, h2, h3, h4, h5, h6]
theorem wz_app (us vs : List (Nat × Nat × Rec)) : ∀ G : Wd, wz G (us ++ vs) = wz (wz G us) vs := by
  induction us with
  | nil => intro G; rfl
  | cons u us ih => intro G; exact ih _
/-- the read-only records stand first -/
theorem wz_ro {G : Wd} {us vs : List (Nat × Nat × Rec)} (h : ∀ u ∈ us, G.2 u.1 = some u.2) : wz G (us ++ vs) = wz G vs := by rw [wz_app, wz_id h]
section PN
variable {X : CX} {cc : ByteArray} {own : String} {ht k n : Nat} {G : Wd} {L : List (Nat × Value)} {st : List Value} {pc : Nat}
theorem pv_callSN {host : String} {y : MethodName} {bytes : ByteArray} {maxL hy index nA mc ms : Nat} {ret : Option FieldType} {As T0 : List Value} {r : Option Value} {G1 : Wd} (hc : OK X cc own ht) (hM : MTa (xl X) (xg X) y bytes maxL ret hy mc ms G As r G1) (hl : Cond.methodLinkNest own index y host ∈ lw_tbl) (hst0 : Cond.static y ∈ lw_all) (hini : Cond.initialized y.cls ∈ lw_all) (hcode : Cond.code y bytes maxL ret ∈ lw_all) (hd : y.cls ≠ "java/lang/invoke/MethodHandle" ∧ y.cls ≠ "java/lang/invoke/VarHandle" ∧ (parseMethodDescriptor y.desc).map (fun d => d.parameters.length) = some nA) (hh : hy < ht ∧ maxL ≤ 45) (hn : As.length = nA) (hs : T0 = As.reverse ++ st) (hst : (st.map fun v => v.category).sum ≤ 8) (d : decode cc pc = .ok (.invokestatic index, 3)) (hcap : k + mc ≤ (xR X).cells ∧ n + ms ≤ (xR X).slots) (h : V X (k + mc) (n + ms) G1 L (r.toList ++ st) (pc + 3)) : V X k n G L T0 pc := by
  refine pv_back rfl (fun H locs ls hW hl' h1 h2 => ?_) hcap h
  have hts := hc.2.2.2.2.1
  have cw := va_cnB (R := xR X) nA hts (lw_meth hcode) rfl (rm := { frames := hy, cells := mc, slots := ms, locals := 64 * hy }) rfl rfl (hc.2.2.2.2.2.1.2.1 _ hl rfl) (hts _ hini) hd ⟨by rw [hc.2.2.2.2.2.2.2.1]; exact hh.1, by rw [hc.2.2.2.2.2.2.2.2]; show 8 + (maxL + 11) + 64 * hy ≤ 64 * ht; omega⟩
  exact va_runSN (As := As) (rest := st) ⟨hc.1, hc.2.1, hc.2.2.1, hc.2.2.2.1, hts⟩ hM ⟨cw, hts _ hst0, trivial⟩ ⟨blindPc _ _ _, fun U hU hWm => ⟨rfl, ST.warm hWm hc.2.2.2.2.2.1, by rw [hU]; exact hW⟩⟩ rfl hn hl'.1 hs (lv_room hst) d ⟨h1, h2⟩
/-- System.arraycopy of ints -/
theorem pv_copyi {index kd0 a0 ie0 q0 kd a ie q1 : Nat} {r0 r r' : Rec} {c0 c1 : ClassId} {n0 n1 : Nat} {f g : Nat → Int32} {ty : FieldType} (hc : OK X cc own ht) (hlink : Cond.methodLink own index arraycopyName ∈ lw_all) (hnat : Cond.native arraycopyName ∈ lw_all) (hstat : Cond.static arraycopyName ∈ lw_all) (hini : Cond.initialized "java/lang/System" ∈ lw_all) (hG0 : G.2 a0 = some (kd0, r0)) (he0 : (gE (xg X) kd0 a0 r0)[ie0]? = some (q0, .inl (c0, n0, .inl f))) (hG : G.2 a = some (kd, r)) (he : (gE (xg X) kd a r)[ie]? = some (q1, .inl (c1, n1, .inl g))) (t0 t1 : Nat) (ht0 : (gty (xg X))[t0]? = some (c0, ty)) (ht1 : (gty (xg X))[t1]? = some (c1, ty)) (hprim : refKind ty = false) {sp dp m0 : Int32} (h1 : ¬ sp < 0) (h2 : ¬ dp < 0) (h3 : ¬ m0 < 0) (h4 : sp.toNatClampNeg + m0.toNatClampNeg ≤ n0) (h5 : dp.toNatClampNeg + m0.toNatClampNeg ≤ n1) (hfit : ∀ i, i < m0.toNatClampNeg → fits ty (.int (f (sp.toNatClampNeg + i))) = true) (hht : 1 ≤ ht) (hst : (st.map fun v => v.category).sum ≤ 8) (hs : gE (xg X) kd a r' = (gE (xg X) kd a r).set ie (q1, .inl (c1, n1, .inl (va_cpy f g sp.toNatClampNeg dp.toNatClampNeg m0.toNatClampNeg)))) (d : decode cc pc = .ok (.invokestatic index, 3)) (h : V X k n (wp G a kd r') L st (pc + 3)) : V X k n G L (.int m0 :: .int dp :: .ref q1 :: .int sp :: .ref q0 :: st) pc := by
  intro hk hn H locs ls hW hS hl
  have nn : ∀ z : Int32, ¬ z < 0 → z.toInt = (z.toNatClampNeg : Int) := by
    intro z hz
    have hz0 : (0 : Int) ≤ z.toInt := by
      have := Int32.not_lt.mp hz
      simpa using Int32.le_iff_toInt_le.mp this
    show z.toInt = ((z.toInt.toNat : Nat) : Int)
    omega
  intro T hT Z
  have hts := hc.2.2.2.2.1
  have hK := hc.2.2.2.2.2.1.1
  have hc0 : H[q0]? = some (vp_cell c0 (n0, .inl f)) := hW.at hG0 he0
  have hc1 : H[q1]? = some (vp_cell c1 (n1, .inl g)) := hW.at hG he
  obtain ⟨-, k0, hk0, cm0, hkk0⟩ := (hK.2 t0 _ ht0).1 n0 (fun j => .int (f j))
  obtain ⟨-, k1, hk1, cm1, hkk1⟩ := (hK.2 t1 _ ht1).1 n1 (fun j => .int (g j))
  obtain ⟨vm', X', step⟩ := Z.arraycopy hc.1 hc.2.2.2.1 (hts _ hlink) (hts _ hnat) (hts _ hstat) (hts _ hini) (src := q0) (dst := q1) (cs := vp_cell c0 (n0, .inl f)) (cd := vp_cell c1 (n1, .inl g)) (srcPos := sp) (destPos := dp) (n := m0) (by rw [hT]; exact hc0) (by rw [hT]; exact hc1)
    (fun _ h => by cases h) (fun _ h => by cases h) (fun h => by cases h) (fun h => by cases h) hk0 hk1 hkk0 hkk1 (by simp [hprim]) h1 h2 h3
    (by rw [nn sp h1, nn m0 h3]; show ¬ _ > ((arrV c0 n0 (fun j => .int (f j))).slots.size : Int); rw [arrV_size]; omega)
    (by rw [nn dp h2, nn m0 h3]; show ¬ _ > ((arrV c1 n1 (fun j => .int (g j))).slots.size : Int); rw [arrV_size]; omega)
    (fun vm₁ _ i hi => by
      have e : (vp_cell c0 (n0, .inl f)).slots.getD (sp.toNatClampNeg + i) .null = .int (f (sp.toNatClampNeg + i)) := by
        show (arrV c0 n0 (fun j => .int (f j))).slots.getD _ _ = _
        rw [Array.getD_eq_getD_getElem?, arrV_read _ _ (by omega)]
        rfl
      refine ⟨?_, ?_⟩
      · rw [e]
        exact hfit i hi
      · rw [e]
        exact trivial)
    (g := F0 (xm X) pc ls (.int m0 :: .int dp :: .ref q1 :: .int sp :: .ref q0 :: st)) rfl (by rw [hc.2.2.1]; exact hl.1) (rest := st) rfl (by rw [hc.2.1]; exact d) (by rw [hc.2.2.2.2.2.2.2.1]; exact hht) (by
      have e9 : nativeFrameWords "java/lang/System" "arraycopy" 5 ≤ 40 := by decide
      rw [hc.2.2.2.2.2.2.2.2]
      show 2 * 0 + _ + _ ≤ _
      omega)
  have e1 : copied (vp_cell c0 (n0, .inl f)) (vp_cell c1 (n1, .inl g)) sp dp m0 = vp_cell c1 (n1, .inl (va_cpy f g sp.toNatClampNeg dp.toNatClampNeg m0.toNatClampNeg)) := va_copied (fun z => .int z) c0 c1 f g h4
  rw [e1] at X' step
  have hl9 : q1 < H.size := (Array.getElem?_eq_some_iff.mp hc1).1
  have hheap : ((T.setVm vm').setCell q1 (vp_cell c1 (n1, .inl (va_cpy f g sp.toNatClampNeg dp.toNatClampNeg m0.toNatClampNeg)))).heap = H.setIfInBounds q1 (vp_cell c1 (n1, .inl (va_cpy f g sp.toNatClampNeg dp.toNatClampNeg m0.toNatClampNeg))) := by rw [← hT]; rfl
  have oq : ∀ q : Nat, q ≠ q1 → (H.setIfInBounds q1 (vp_cell c1 (n1, .inl (va_cpy f g sp.toNatClampNeg dp.toNatClampNeg m0.toNatClampNeg))))[q]? = H[q]? := fun q hq => by simp [Array.getElem?_setIfInBounds, Ne.symm hq]
  obtain ⟨t, a1, b1⟩ := h hk hn _ _ ls (hW.set hG he hs (by simp) oq (show (H.setIfInBounds q1 _)[q1]? = some _ by simp [Array.getElem?_setIfInBounds, hl9])) (fun q hq => by
      rcases List.mem_append.mp hq with h | h
      · exact hS q h
      · obtain ⟨z, -, hz⟩ := List.mem_map.mp h
        rw [← hz]
        exact hW.lo hG he) hl _ hheap X'
  exact ⟨t, step t a1, b1⟩
theorem pv_mmax {index : Nat} {x y : Int32} {b : ByteArray} (hc : OK X cc own ht) (hl : Cond.methodLink own index Lib.Math.max.name ∈ lw_all) (hs : Cond.static Lib.Math.max.name ∈ lw_all) (hi : Cond.initialized "java/lang/Math" ∈ lw_all) (hcd : Cond.code Lib.Math.max.name b 2 (some .int) ∈ lw_all) (hb : b = Lib.Math.max.code) (hht : 1 ≤ ht) (hst : (st.map fun v => v.category).sum ≤ 8) (d : decode cc pc = .ok (.invokestatic index, 3)) (h : V X k n G L (.int (if x < y then y else x) :: st) (pc + 3)) : V X k n G L (.int y :: .int x :: st) pc :=
  fun hk hn H locs ls hW hS hl' => va_mmax hc.1 hc.2.1 (by rw [hc.2.2.1]; exact hl'.1.symm) hc.2.2.2.1 (hc.2.2.2.2.1 _ hl) (hc.2.2.2.2.1 _ hs) (hc.2.2.2.2.1 _ hi) (hc.2.2.2.2.1 _ (hb ▸ hcd)) (by rw [hc.2.2.2.2.2.2.2.1]; exact hht) (by rw [hc.2.2.2.2.2.2.2.2]; omega) hk hn d (h hk hn H locs ls hW hS hl')
theorem pv_mmin {index : Nat} {x y : Int32} {b : ByteArray} (hc : OK X cc own ht) (hl : Cond.methodLink own index Lib.Math.min.name ∈ lw_all) (hs : Cond.static Lib.Math.min.name ∈ lw_all) (hi : Cond.initialized "java/lang/Math" ∈ lw_all) (hcd : Cond.code Lib.Math.min.name b 2 (some .int) ∈ lw_all) (hb : b = Lib.Math.min.code) (hht : 1 ≤ ht) (hst : (st.map fun v => v.category).sum ≤ 8) (d : decode cc pc = .ok (.invokestatic index, 3)) (h : V X k n G L (.int (if y < x then y else x) :: st) (pc + 3)) : V X k n G L (.int y :: .int x :: st) pc :=
  fun hk hn H locs ls hW hS hl' => va_mmin hc.1 hc.2.1 (by rw [hc.2.2.1]; exact hl'.1.symm) hc.2.2.2.1 (hc.2.2.2.2.1 _ hl) (hc.2.2.2.2.1 _ hs) (hc.2.2.2.2.1 _ hi) (hc.2.2.2.2.1 _ (hb ▸ hcd)) (by rw [hc.2.2.2.2.2.2.2.1]; exact hht) (by rw [hc.2.2.2.2.2.2.2.2]; omega) hk hn d (h hk hn H locs ls hW hS hl')
theorem pv_mabs {index : Nat} {x : Int32} {b : ByteArray} (hc : OK X cc own ht) (hl : Cond.methodLink own index Lib.Math.abs.name ∈ lw_all) (hs : Cond.static Lib.Math.abs.name ∈ lw_all) (hi : Cond.initialized "java/lang/Math" ∈ lw_all) (hcd : Cond.code Lib.Math.abs.name b 1 (some .int) ∈ lw_all) (hb : b = Lib.Math.abs.code) (hht : 1 ≤ ht) (hst : (st.map fun v => v.category).sum ≤ 8) (d : decode cc pc = .ok (.invokestatic index, 3)) (h : V X k n G L (.int (if 0 ≤ x then x else 0 - x) :: st) (pc + 3)) : V X k n G L (.int x :: st) pc :=
  fun hk hn H locs ls hW hS hl' => va_mabs hc.1 hc.2.1 (by rw [hc.2.2.1]; exact hl'.1.symm) hc.2.2.2.1 (hc.2.2.2.2.1 _ hl) (hc.2.2.2.2.1 _ hs) (hc.2.2.2.2.1 _ hi) (hc.2.2.2.2.1 _ (hb ▸ hcd)) (by rw [hc.2.2.2.2.2.2.2.1]; exact hht) (by rw [hc.2.2.2.2.2.2.2.2]; omega) hk hn d (h hk hn H locs ls hW hS hl')
end PN
