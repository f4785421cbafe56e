/-! PURE: what stays when one thing is written -/
theorem wpk {G : Wd} {x a k0 kd : Nat} {c c' r : Rec} (hx : G.2 x = some (k0, c)) (ha : G.2 a = some (kd, r)) (h : kd ≠ k0) : (wp G x k0 c').2 a = some (kd, r) := by
  rw [wp_ne (kd_ne ha hx h)]; exact ha
theorem FX_wp {G : Wd} {x k0 : Nat} {c c' : Rec} (hx : G.2 x = some (k0, c)) (h2 : k0 ≠ 2) (h3 : k0 < 12 ∨ 16 < k0) : FX G (wp G x k0 c') := by
  intro a kd r hk ha
  exact wpk hx ha (by omega)
theorem KP_wp {G : Wd} {x k0 : Nat} {c c' : Rec} (hx : G.2 x = some (k0, c)) (h2 : k0 ≠ 7) (h3 : k0 ≠ 61) : KP G (wp G x k0 c') := ⟨Nat.le_refl _, by show G.1 ≤ G.1 + 90; omega, fun a kd r hk ha => wpk hx ha (by omega)⟩
theorem none_wp {G : Wd} {x k0 : Nat} {c c' : Rec} (hx : G.2 x = some (k0, c)) (h : ∀ a, G.1 ≤ a → G.2 a = none) : ∀ a, (wp G x k0 c').1 ≤ a → (wp G x k0 c').2 a = none := by
  intro a ha
  have h1 : x ≠ a := fun e => by
    subst e
    rw [h x ha] at hx; cases hx
  rw [wp_ne (fun e => h1 e.symm)]; exact h a ha
/-- an image stays when the world keeps houses, sentences, its own object and state -/
theorem IM1_ext {G G' : Wd} {m m' c c' : Rec} {ow ow' : Nat → Nat} {k : Nat} (hk : k < 2) (h : IM1 G m c ow k) (hQ : gQ c' 32 k = gQ c 32 k) (h22 : gA m' 22 k = gA m 22 k) (h16 : ∀ j, j < 406 → gA m' 16 (406 * k + j) = gA m 16 (406 * k + j)) (h21 : ∀ i, i < 20 → gL m' 21 (20 * k + i) = gL m 21 (20 * k + i)) (hF : FX G G') (hq : ∀ q r, gQ c 32 k = some q → ow q = 12 + k → G.2 q = some (17, r) → G'.2 q = some (17, r) ∧ ow' q = 12 + k) (hs : ∀ q r, ow q = 10 + k → G.2 q = some (3, r) → G'.2 q = some (3, r) ∧ ow' q = 10 + k) : IM1 G' m' c' ow' k := by
  rcases h with ⟨a, b⟩ | ⟨q, r, hb, eh, sa, sz, dk, a1, a2, a3, a4, a5, a6, a7, a8, a9, b1, b2, b3, b4, b5, b6⟩
  · exact Or.inl ⟨hQ.trans a, h22.trans b⟩
  · refine Or.inr ⟨q, r, hb, eh, sa, sz, dk, hQ.trans a1, (hq q r a1 a2 a4).2, h22.trans a3, (hq q r a1 a2 a4).1, a5, hF _ _ _ (by omega) a6, a7, (hs sa sz a8 a9).2, (hs sa sz a8 a9).1, b1, NM_ext b2 b4.1.1 (fun _ _ => rfl) h21, b3, b4, SEN_ext hF (fun _ _ _ => rfl) b5, fun j hj => ?_⟩
    rw [h16 j hj]; exact b6 j hj
section FRM
variable {x : Nat} {G : Wd} {m c : Rec} {b : Nat} {e z : Rec} {d : Nat → Nat} {ow : Nat → Nat} {n : Nat} {U : Nat → Nat → Nat}
/-- the model's record keeps what the relation speaks of, beside single fields -/
def MK (m m' : Rec) : Prop := gL m' 19 = gL m 19 ∧ gL m' 21 = gL m 21 ∧ gA m' 14 = gA m 14 ∧ gA m' 16 = gA m 16 ∧ gA m' 17 = gA m 17 ∧ gA m' 22 = gA m 22 ∧ gI m' 24 = gI m 24
theorem MK.refl (m : Rec) : MK m m := ⟨rfl, rfl, rfl, rfl, rfl, rfl, rfl⟩
theorem MK_sI (m : Rec) {k : Nat} (v : Int32) (h : k ≠ 24) : MK m (sI m k v) := ⟨rfl, rfl, rfl, rfl, rfl, rfl, gI_sIn _ _ (fun e => h e.symm)⟩
theorem MK.trans {a b c : Rec} (h : MK a b) (h2 : MK b c) : MK a c := ⟨h2.1.trans h.1, h2.2.1.trans h.2.1, h2.2.2.1.trans h.2.2.1, h2.2.2.2.1.trans h.2.2.2.1, h2.2.2.2.2.1.trans h.2.2.2.2.1, h2.2.2.2.2.2.1.trans h.2.2.2.2.2.1, h2.2.2.2.2.2.2.trans h.2.2.2.2.2.2⟩
/-- the main object's record keeps its references -/
def CK (c c' : Rec) : Prop := gP c' 6 = gP c 6 ∧ gP c' 31 = gP c 31 ∧ gQ c' 12 = gQ c 12 ∧ gQ c' 32 = gQ c 32 ∧ gI c' 13 = gI c 13
theorem CK.refl (c : Rec) : CK c c := ⟨rfl, rfl, rfl, rfl, rfl⟩
theorem CK_sI (c : Rec) {k : Nat} (v : Int32) (h : k ≠ 13) : CK c (sI c k v) := ⟨rfl, rfl, rfl, rfl, gI_sIn _ _ (fun e => h e.symm)⟩
theorem CK.trans {a b c : Rec} (h : CK a b) (h2 : CK b c) : CK a c := ⟨h2.1.trans h.1, h2.2.1.trans h.2.1, h2.2.2.1.trans h.2.2.1, h2.2.2.2.1.trans h.2.2.2.1, h2.2.2.2.2.trans h.2.2.2.2⟩
/-- the main object is written -/
theorem RR.main (h : RR x G m c b e z d ow n U) {c' m' : Rec} (hC : CK c c') (hM : MS c' m') (hm : MK m m') : RR x (wp G x 0 c') m' c' b e z d ow n U := by
  obtain ⟨⟨b1, b2, b3, b4, ⟨y, b5⟩, b6⟩, ⟨s1, s2, s3, s4, s5⟩, -, ⟨u1, u2, u3, u4, u5, u6, u7, u8, u9⟩, hI, hS⟩ := h
  obtain ⟨k1, k2, k3, k4, k5, k6, k7⟩ := hm
  obtain ⟨l1, l2, l3, l4, l5⟩ := hC
  have hF : FX G (wp G x 0 c') := FX_wp b1 (by omega) (by omega)
  refine ⟨⟨wp_at _ _ _ _, l1.trans b2, wpk b1 b3 (by omega), wpk b1 b4 (by omega), ⟨y, wpk b1 b5 (by omega)⟩, none_wp b1 b6⟩, ⟨s1, by rw [k1]; exact s2, s3, s4, k3.trans s5⟩, hM, ⟨u1, l5.trans u2, k7.trans u3, fun i hi j hj => by rw [k5]; exact u4 i hi j hj, u5, fun i hi => ?_, fun i hi a ha => ?_, u8, u9⟩, fun k hk => ?_, ?_⟩
  · obtain ⟨a, zi, a1, a2, a3⟩ := u6 i hi
    exact ⟨a, zi, by rw [l3]; exact a1, wpk b1 a2 (by omega), a3⟩
  · rw [l3] at ha
    obtain ⟨⟨zi, a1⟩, a2⟩ := u7 i hi a ha
    exact ⟨⟨zi, wpk b1 a1 (by omega)⟩, a2⟩
  · exact IM1_ext hk (hI k hk) (by rw [l4]) (by rw [k6]) (fun j _ => by rw [k4]) (fun i _ => by rw [k2]) hF (fun q r _ a1 a2 => ⟨wpk b1 a2 (by omega), a1⟩) (fun q r a1 a2 => ⟨wpk b1 a2 (by omega), a1⟩)
  · rw [l2]; exact SEN_ext hF (fun _ _ _ => rfl) hS
/-- nothing of the component is written -/
theorem RR.ro (h : RR x G m c b e z d ow n U) {m' : Rec} (hM : MS c m') (hm : MK m m') : RR x G m' c b e z d ow n U := by
  have k := h.main (CK.refl c) hM hm
  rw [wp_id h.1.1] at k
  exact k
theorem mix_KH2 {u d d' : Nat → Nat} (h : KH d d') : mixD u d' = mixD u d := by
  funext k
  by_cases hk : 24 ≤ k ∧ k < 164
  · rw [mix_in hk.1 hk.2, mix_in hk.1 hk.2]
  · rw [mix_out (by omega), mix_out (by omega)]
    by_cases h2 : k < 24
    · exact h.1 k h2
    · exact h.2 k (by omega)
/-- what is so is written -/
theorem RR.now (h : RR x G m c b e z d ow n U) {z' m' : Rec} {d' : Nat → Nat} (hk : KH d d') (g : GD d') (hz : ZS z' d') (hM : MS c m') (l19 : gL m' 19 = gL m 19) (l21 : gL m' 21 = gL m 21) (a14 : gA m' 14 = RF d') (a16 : gA m' 16 = gA m 16) (a17 : gA m' 17 = gA m 17) (a22 : gA m' 22 = gA m 22) (i24 : gI m' 24 = gI m 24) : RR x (wp G (x + 13) 3 z') m' c b e z' d' ow n U := by
  obtain ⟨⟨b1, b2, b3, b4, ⟨y, b5⟩, b6⟩, ⟨s1, s2, s3, s4, s5⟩, -, ⟨u1, u2, u3, u4, u5, u6, u7, u8, u9⟩, hI, hS⟩ := h
  have hF : FX G (wp G (x + 13) 3 z') := FX_wp b4 (by omega) (by omega)
  have hst : ∀ {a : Nat} {r : Rec}, G.2 a = some (3, r) → ow a ≠ 0 → (wp G (x + 13) 3 z').2 a = some (3, r) := fun {a} {r} h1 h2 => by
    rw [wp_ne (fun e => by rw [e, u8] at h2; exact h2 rfl)]; exact h1
  refine ⟨⟨wpk b4 b1 (by omega), b2, wpk b4 b3 (by omega), wp_at _ _ _ _, ⟨y, hst b5 (by omega)⟩, none_wp b4 b6⟩, ⟨s1.keep hk, NM_ext s2 s4.1.1 (fun k hk' => hk.1 k (by omega)) (fun i _ => by rw [l19]), hz, g, a14⟩, hM, ⟨u1, u2, i24.trans u3, fun i hi j hj => by rw [a17]; exact u4 i hi j hj, fun i hi => by rw [mix_KH2 hk]; exact u5 i hi, fun i hi => ?_, fun i hi a ha => ?_, u8, u9⟩, fun k hk => ?_, ?_⟩
  · obtain ⟨a, zi, a1, a2, a3⟩ := u6 i hi
    have := (u7 i (by omega) a a1).2
    exact ⟨a, zi, a1, hst a2 (by omega), a3⟩
  · obtain ⟨⟨zi, a1⟩, a2⟩ := u7 i hi a ha
    exact ⟨⟨zi, hst a1 (by omega)⟩, a2⟩
  · exact IM1_ext hk (hI k hk) rfl (by rw [a22]) (fun j _ => by rw [a16]) (fun i _ => by rw [l21]) hF (fun q r _ a1 a2 => ⟨wpk b4 a2 (by omega), a1⟩) (fun q r a1 a2 => ⟨hst a2 (by omega), a1⟩)
  · exact SEN_ext hF (fun k h1 _ => hk.2 k h1) hS
/-- the state to try with is written -/
theorem RR.tried (h : RR x G m c b e z d ow n U) (y' : Rec) : RR x (wp G (x + 21) 3 y') m c b e z d ow n U := by
  obtain ⟨⟨b1, b2, b3, b4, ⟨y, b5⟩, b6⟩, hs, hM, ⟨u1, u2, u3, u4, u5, u6, u7, u8, u9⟩, hI, hS⟩ := h
  have hF : FX G (wp G (x + 21) 3 y') := FX_wp b5 (by omega) (by omega)
  have hst : ∀ {a : Nat} {r : Rec}, G.2 a = some (3, r) → ow a ≠ 1 → (wp G (x + 21) 3 y').2 a = some (3, r) := fun {a} {r} h1 h2 => by
    rw [wp_ne (fun e => by rw [e, u9] at h2; exact h2 rfl)]; exact h1
  refine ⟨⟨wpk b5 b1 (by omega), b2, wpk b5 b3 (by omega), hst b4 (by omega), ⟨y', wp_at _ _ _ _⟩, none_wp b5 b6⟩, hs, hM, ⟨u1, u2, u3, u4, u5, fun i hi => ?_, fun i hi a ha => ?_, u8, u9⟩, fun k hk => ?_, ?_⟩
  · obtain ⟨a, zi, a1, a2, a3⟩ := u6 i hi
    have := (u7 i (by omega) a a1).2
    exact ⟨a, zi, a1, hst a2 (by omega), a3⟩
  · obtain ⟨⟨zi, a1⟩, a2⟩ := u7 i hi a ha
    exact ⟨⟨zi, hst a1 (by omega)⟩, a2⟩
  · exact IM1_ext hk (hI k hk) rfl rfl (fun j _ => rfl) (fun i _ => rfl) hF (fun q r _ a1 a2 => ⟨wpk b5 a2 (by omega), a1⟩) (fun q r a1 a2 => ⟨hst a2 (by omega), a1⟩)
  · exact SEN_ext hF (fun _ _ _ => rfl) hS
end FRM
