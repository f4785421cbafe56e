/-! OWN FRAME OF THE PROOF: a ghost heap of records (Wd), the world GW, the judgement V (W over every heap that holds the ghost), one row an instruction. -/
set_option maxRecDepth 100000
abbrev Rec : Type := (Nat → Int32) × (Nat → Nat → Int32) × (Nat → Int64) × (Nat → Nat → Int64) × (Nat → Option Nat) × (Nat → Nat → Option Nat)
def gI (r : Rec) (k : Nat) : Int32 := r.1 k
def gA (r : Rec) (j : Nat) : Nat → Int32 := r.2.1 j
def gJ (r : Rec) (k : Nat) : Int64 := r.2.2.1 k
def gL (r : Rec) (j : Nat) : Nat → Int64 := r.2.2.2.1 j
def gP (r : Rec) (k : Nat) : Option Nat := r.2.2.2.2.1 k
def gQ (r : Rec) (j : Nat) : Nat → Option Nat := r.2.2.2.2.2 j
def sI (r : Rec) (k : Nat) (v : Int32) : Rec := (va_up r.1 k v, r.2)
def sA (r : Rec) (j : Nat) (i : Nat) (v : Int32) : Rec := (r.1, va_up r.2.1 j (va_up (r.2.1 j) i v), r.2.2)
def sJ (r : Rec) (k : Nat) (v : Int64) : Rec := (r.1, r.2.1, va_up r.2.2.1 k v, r.2.2.2)
def sL (r : Rec) (j : Nat) (i : Nat) (v : Int64) : Rec := (r.1, r.2.1, r.2.2.1, va_up r.2.2.2.1 j (va_up (r.2.2.2.1 j) i v), r.2.2.2.2)
def sP (r : Rec) (k : Nat) (v : Option Nat) : Rec := (r.1, r.2.1, r.2.2.1, r.2.2.2.1, va_up r.2.2.2.2.1 k v, r.2.2.2.2.2)
def sQ (r : Rec) (j : Nat) (i : Nat) (v : Option Nat) : Rec := (r.1, r.2.1, r.2.2.1, r.2.2.2.1, r.2.2.2.2.1, va_up r.2.2.2.2.2 j (va_up (r.2.2.2.2.2 j) i v))
theorem up_s {α : Type} (f : Nat → α) (k : Nat) (v : α) : va_up f k v k = v := by simp [va_up]
theorem up_n {α : Type} (f : Nat → α) {k j : Nat} (v : α) (h : j ≠ k) : va_up f k v j = f j := by simp [va_up, h]
theorem up_i {α : Type} (f : Nat → α) (k : Nat) (v : α) (j : Nat) : va_up f k v j = if j = k then v else f j := rfl
theorem gI_sI (r : Rec) (k : Nat) (v : Int32) (j : Nat) : gI (sI r k v) j = if j = k then v else gI r j := rfl
theorem gI_sA (r : Rec) (k i : Nat) (v : Int32) (j : Nat) : gI (sA r k i v) j = gI r j := rfl
theorem gI_sJ (r : Rec) (k : Nat) (v : Int64) (j : Nat) : gI (sJ r k v) j = gI r j := rfl
theorem gI_sL (r : Rec) (k i : Nat) (v : Int64) (j : Nat) : gI (sL r k i v) j = gI r j := rfl
theorem gI_sP (r : Rec) (k : Nat) (v : Option Nat) (j : Nat) : gI (sP r k v) j = gI r j := rfl
theorem gI_sQ (r : Rec) (k i : Nat) (v : Option Nat) (j : Nat) : gI (sQ r k i v) j = gI r j := rfl
theorem gA_sA (r : Rec) (k i : Nat) (v : Int32) (j : Nat) : gA (sA r k i v) j = if j = k then va_up (gA r k) i v else gA r j := rfl
theorem gA_sA2 (r : Rec) (k i : Nat) (v : Int32) (j q : Nat) : gA (sA r k i v) j q = if j = k ∧ q = i then v else gA r j q := by
  rw [gA_sA]
  by_cases h : j = k
  · subst h; simp [va_up]
  · simp [h]
theorem gA_sI (r : Rec) (k : Nat) (v : Int32) (j : Nat) : gA (sI r k v) j = gA r j := rfl
theorem gA_sJ (r : Rec) (k : Nat) (v : Int64) (j : Nat) : gA (sJ r k v) j = gA r j := rfl
theorem gA_sL (r : Rec) (k i : Nat) (v : Int64) (j : Nat) : gA (sL r k i v) j = gA r j := rfl
theorem gA_sP (r : Rec) (k : Nat) (v : Option Nat) (j : Nat) : gA (sP r k v) j = gA r j := rfl
theorem gA_sQ (r : Rec) (k i : Nat) (v : Option Nat) (j : Nat) : gA (sQ r k i v) j = gA r j := rfl
theorem gJ_sJ (r : Rec) (k : Nat) (v : Int64) (j : Nat) : gJ (sJ r k v) j = if j = k then v else gJ r j := rfl
theorem gJ_sI (r : Rec) (k : Nat) (v : Int32) (j : Nat) : gJ (sI r k v) j = gJ r j := rfl
theorem gJ_sA (r : Rec) (k i : Nat) (v : Int32) (j : Nat) : gJ (sA r k i v) j = gJ r j := rfl
theorem gJ_sL (r : Rec) (k i : Nat) (v : Int64) (j : Nat) : gJ (sL r k i v) j = gJ r j := rfl
theorem gJ_sP (r : Rec) (k : Nat) (v : Option Nat) (j : Nat) : gJ (sP r k v) j = gJ r j := rfl
theorem gJ_sQ (r : Rec) (k i : Nat) (v : Option Nat) (j : Nat) : gJ (sQ r k i v) j = gJ r j := rfl
theorem gL_sL (r : Rec) (k i : Nat) (v : Int64) (j : Nat) : gL (sL r k i v) j = if j = k then va_up (gL r k) i v else gL r j := rfl
theorem gL_sL2 (r : Rec) (k i : Nat) (v : Int64) (j q : Nat) : gL (sL r k i v) j q = if j = k ∧ q = i then v else gL r j q := by
  rw [gL_sL]
  by_cases h : j = k
  · subst h; simp [va_up]
  · simp [h]
theorem gL_sI (r : Rec) (k : Nat) (v : Int32) (j : Nat) : gL (sI r k v) j = gL r j := rfl
theorem gL_sA (r : Rec) (k i : Nat) (v : Int32) (j : Nat) : gL (sA r k i v) j = gL r j := rfl
theorem gL_sJ (r : Rec) (k : Nat) (v : Int64) (j : Nat) : gL (sJ r k v) j = gL r j := rfl
theorem gL_sP (r : Rec) (k : Nat) (v : Option Nat) (j : Nat) : gL (sP r k v) j = gL r j := rfl
theorem gL_sQ (r : Rec) (k i : Nat) (v : Option Nat) (j : Nat) : gL (sQ r k i v) j = gL r j := rfl
theorem gP_sP (r : Rec) (k : Nat) (v : Option Nat) (j : Nat) : gP (sP r k v) j = if j = k then v else gP r j := rfl
theorem gP_sI (r : Rec) (k : Nat) (v : Int32) (j : Nat) : gP (sI r k v) j = gP r j := rfl
theorem gP_sA (r : Rec) (k i : Nat) (v : Int32) (j : Nat) : gP (sA r k i v) j = gP r j := rfl
theorem gP_sJ (r : Rec) (k : Nat) (v : Int64) (j : Nat) : gP (sJ r k v) j = gP r j := rfl
theorem gP_sL (r : Rec) (k i : Nat) (v : Int64) (j : Nat) : gP (sL r k i v) j = gP r j := rfl
theorem gP_sQ (r : Rec) (k i : Nat) (v : Option Nat) (j : Nat) : gP (sQ r k i v) j = gP r j := rfl
theorem gQ_sQ (r : Rec) (k i : Nat) (v : Option Nat) (j : Nat) : gQ (sQ r k i v) j = if j = k then va_up (gQ r k) i v else gQ r j := rfl
theorem gQ_sQ2 (r : Rec) (k i : Nat) (v : Option Nat) (j q : Nat) : gQ (sQ r k i v) j q = if j = k ∧ q = i then v else gQ r j q := by
  rw [gQ_sQ]
  by_cases h : j = k
  · subst h; simp [va_up]
  · simp [h]
theorem gQ_sI (r : Rec) (k : Nat) (v : Int32) (j : Nat) : gQ (sI r k v) j = gQ r j := rfl
theorem gQ_sA (r : Rec) (k i : Nat) (v : Int32) (j : Nat) : gQ (sA r k i v) j = gQ r j := rfl
theorem gQ_sJ (r : Rec) (k : Nat) (v : Int64) (j : Nat) : gQ (sJ r k v) j = gQ r j := rfl
theorem gQ_sL (r : Rec) (k i : Nat) (v : Int64) (j : Nat) : gQ (sL r k i v) j = gQ r j := rfl
theorem gQ_sP (r : Rec) (k : Nat) (v : Option Nat) (j : Nat) : gQ (sP r k v) j = gQ r j := rfl
/-- the ghosts of a run: class numbers, classes, array classes, how a record of a kind lies in cells, the first new address, the heap at the start, what else the start says of the tables and of old cells -/
abbrev Gh : Type := va_G × List vw_C × List (ClassId × FieldType) × (Nat → Nat → Rec → va_W) × Nat × Heap × (State → Prop) × (Nat → Nat)
abbrev gD (g : Gh) : va_G := g.1
abbrev gcl (g : Gh) : List vw_C := g.2.1
abbrev gty (g : Gh) : List (ClassId × FieldType) := g.2.2.1
abbrev gE (g : Gh) : Nat → Nat → Rec → va_W := g.2.2.2.1
abbrev gb (g : Gh) : Nat := g.2.2.2.2.1
abbrev gH (g : Gh) : Heap := g.2.2.2.2.2.1
abbrev gS (g : Gh) : State → Prop := g.2.2.2.2.2.2.1
/-- addresses of old cells that are named by numbers (texts) -/
abbrev gN (g : Gh) : Nat → Nat := g.2.2.2.2.2.2.2
/-- the ghost heap: the heap's size, and the records by address with their kinds -/
abbrev Wd : Type := Nat × (Nat → Option (Nat × Rec))
def wp (G : Wd) (a kd : Nat) (r : Rec) : Wd := (G.1, fun q => if q = a then some (kd, r) else G.2 q)
theorem wp_at (G : Wd) (a kd : Nat) (r : Rec) : (wp G a kd r).2 a = some (kd, r) := by simp [wp]
theorem wp_ne {G : Wd} {a b kd : Nat} {r : Rec} (h : b ≠ a) : (wp G a kd r).2 b = G.2 b := by simp [wp, h]
theorem wp_sz (G : Wd) (a kd : Nat) (r : Rec) : (wp G a kd r).1 = G.1 := rfl
theorem wp_wp (G : Wd) (a k1 k2 : Nat) (r1 r2 : Rec) : wp (wp G a k1 r1) a k2 r2 = wp G a k2 r2 := by
  unfold wp
  congr 1
  funext q
  by_cases h : q = a <;> simp [h]
theorem wp_id {G : Wd} {a kd : Nat} {r : Rec} (h : G.2 a = some (kd, r)) : wp G a kd r = G := by
  obtain ⟨n, f⟩ := G
  unfold wp
  congr 1
  funext q
  by_cases hq : q = a
  · subst hq; simp; exact h.symm
  · simp [hq]
theorem wp_swap (G : Wd) {a b : Nat} (ka kb : Nat) (r s : Rec) (h : a ≠ b) : wp (wp G a ka r) b kb s = wp (wp G b kb s) a ka r := by
  unfold wp
  congr 1
  funext q
  by_cases h1 : q = a
  · subst h1; simp [h]
  · by_cases h2 : q = b
    · subst h2; simp [h1]
    · simp [h1, h2]
theorem kd_ne {G : Wd} {a b k1 k2 : Nat} {r1 r2 : Rec} (h1 : G.2 a = some (k1, r1)) (h2 : G.2 b = some (k2, r2)) (h : k1 ≠ k2) : a ≠ b := by
  rintro rfl
  rw [h1] at h2
  exact h (Prod.mk.inj (Option.some.inj h2)).1
/-- several records at once -/
def wz (G : Wd) : List (Nat × Nat × Rec) → Wd
  | [] => G
  | u :: us => wz (wp G u.1 u.2.1 u.2.2) us
theorem wz_out {us : List (Nat × Nat × Rec)} : ∀ {G : Wd} {a : Nat}, a ∉ us.map (fun u => u.1) → (wz G us).2 a = G.2 a := by
  induction us with
  | nil => intro G a _; rfl
  | cons u us ih =>
    intro G a h
    simp only [List.map_cons, List.mem_cons, not_or] at h
    show (wz (wp G u.1 u.2.1 u.2.2) us).2 a = _
    rw [ih h.2, wp_ne h.1]
theorem wz_at {us : List (Nat × Nat × Rec)} : ∀ {G : Wd} {ad : List Nat}, ad.Nodup → us.map (fun u => u.1) = ad → ∀ (i : Nat) {a kd : Nat} {r : Rec}, us[i]? = some (a, kd, r) → (wz G us).2 a = some (kd, r) := by
  induction us with
  | nil => intro G ad _ _ i a kd r h; cases h
  | cons u us ih =>
    intro G ad hn hm i a kd r h
    subst hm
    simp only [List.map_cons, List.nodup_cons] at hn
    cases i with
    | zero =>
      cases h
      show (wz (wp G a kd r) us).2 a = _
      rw [wz_out hn.1, wp_at]
    | succ i => exact ih hn.2 rfl i h
theorem wz_ov {us : List (Nat × Nat × Rec)} : ∀ {G : Wd} {a kd : Nat} {r : Rec}, a ∉ us.map (fun u => u.1) → wp (wz G us) a kd r = wz (wp G a kd r) us := by
  induction us with
  | nil => intro G a kd r _; rfl
  | cons u us ih =>
    intro G a kd r h
    simp only [List.map_cons, List.mem_cons, not_or] at h
    show wp (wz (wp G u.1 u.2.1 u.2.2) us) a kd r = wz (wp (wp G a kd r) u.1 u.2.1 u.2.2) us
    rw [ih h.2, wp_swap _ _ _ _ _ (Ne.symm h.1)]
theorem wz_set {us : List (Nat × Nat × Rec)} : ∀ {G : Wd} {ad : List Nat}, ad.Nodup → us.map (fun u => u.1) = ad → ∀ (i : Nat) {a kd kd' : Nat} {r r' : Rec} {us' : List (Nat × Nat × Rec)}, us[i]? = some (a, kd, r) → us.set i (a, kd', r') = us' → wp (wz G us) a kd' r' = wz G us' := by
  induction us with
  | nil => intro G ad _ _ i a kd kd' r r' us' h; cases h
  | cons u us ih =>
    intro G ad hn hm i a kd kd' r r' us' h hs
    subst hm; subst hs
    simp only [List.map_cons, List.nodup_cons] at hn
    cases i with
    | zero =>
      cases h
      show wp (wz (wp G a kd r) us) a kd' r' = wz (wp G a kd' r') us
      rw [wz_ov hn.1, wp_wp]
    | succ i => exact ih hn.2 rfl i h rfl
theorem wz_id {us : List (Nat × Nat × Rec)} : ∀ {G : Wd}, (∀ u ∈ us, G.2 u.1 = some u.2) → wz G us = G := by
  induction us with
  | nil => intro G _; rfl
  | cons u us ih =>
    intro G h
    show wz (wp G u.1 u.2.1 u.2.2) us = G
    rw [wp_id (h u List.mem_cons_self)]
    exact ih fun v hv => h v (List.mem_cons_of_mem _ hv)
theorem wz_n {G : Wd} : ∀ u ∈ ([] : List (Nat × Nat × Rec)), G.2 u.1 = some u.2 := fun u h => by cases h
theorem wz_c {G : Wd} {a kd : Nat} {r : Rec} {us : List (Nat × Nat × Rec)} (h : G.2 a = some (kd, r)) (t : ∀ u ∈ us, G.2 u.1 = some u.2) : ∀ u ∈ (a, kd, r) :: us, G.2 u.1 = some u.2 := fun u hu => by
  rcases List.mem_cons.mp hu with q | q
  · rw [q]; exact h
  · exact t u q
def GW (g : Gh) (G : Wd) (H : Heap) : Prop :=
  H.size = G.1 ∧ gb g ≤ G.1 ∧ (∀ q : Nat, q < gb g → H[q]? = (gH g)[q]?) ∧
  (∀ (a kd : Nat) (r : Rec), G.2 a = some (kd, r) → a < G.1 ∧ ∀ (i : Nat) (q : Nat × va_E), (gE g kd a r)[i]? = some q → gb g ≤ q.1 ∧ va_at (gD g) (gcl g) q H) ∧
  (∀ (a kd : Nat) (r : Rec) (a' kd' : Nat) (r' : Rec) (i i' : Nat) (q q' : Nat × va_E), G.2 a = some (kd, r) → G.2 a' = some (kd', r') → (gE g kd a r)[i]? = some q → (gE g kd' a' r')[i']? = some q' → q.1 = q'.1 → a = a' ∧ i = i')
theorem GW.at {g : Gh} {G : Wd} {H : Heap} (h : GW g G H) {a kd : Nat} {r : Rec} (hG : G.2 a = some (kd, r)) {i : Nat} {q : Nat × va_E} (he : (gE g kd a r)[i]? = some q) : va_at (gD g) (gcl g) q H := ((h.2.2.2.1 a kd r hG).2 i q he).2
theorem GW.lo {g : Gh} {G : Wd} {H : Heap} (h : GW g G H) {a kd : Nat} {r : Rec} (hG : G.2 a = some (kd, r)) {i : Nat} {q : Nat × va_E} (he : (gE g kd a r)[i]? = some q) : gb g ≤ q.1 := ((h.2.2.2.1 a kd r hG).2 i q he).1
theorem GW.P {g : Gh} {G : Wd} {H : Heap} (h : GW g G H) {a kd : Nat} {r : Rec} (hG : G.2 a = some (kd, r)) {i : Nat} {q : Nat × va_E} (he : (gE g kd a r)[i]? = some q) : va_P (gD g) (gcl g) [q] H := by
  intro k q' hq
  match k, hq with
  | 0, hq => cases hq; exact h.at hG he
  | k + 1, hq => cases hq
theorem GW.set {g : Gh} {G : Wd} {H H1 : Heap} (h : GW g G H) {a kd : Nat} {r r' : Rec} (hG : G.2 a = some (kd, r)) {i q0 : Nat} {e e' : va_E} (he : (gE g kd a r)[i]? = some (q0, e)) (hs : gE g kd a r' = (gE g kd a r).set i (q0, e')) (hz : H1.size = H.size) (hq : ∀ q, q ≠ q0 → H1[q]? = H[q]?) (hat : va_at (gD g) (gcl g) (q0, e') H1) : GW g (wp G a kd r') H1 := by
  have hb0 : gb g ≤ q0 := h.lo hG he
  obtain ⟨h1, h0, h2, h3, h4⟩ := h
  have hi : i < (gE g kd a r).length := (List.getElem?_eq_some_iff.mp he).1
  have key : ∀ {c kc : Nat} {rc : Rec} {j : Nat} {p : Nat × va_E}, (wp G a kd r').2 c = some (kc, rc) → (gE g kc c rc)[j]? = some p → ∃ rc' p', G.2 c = some (kc, rc') ∧ (gE g kc c rc')[j]? = some p' ∧ p'.1 = p.1 ∧ (p' = p ∨ (c = a ∧ j = i ∧ p = (q0, e'))) := by
    intro c kc rc j p hc hp
    by_cases hca : c = a
    · subst hca
      rw [wp_at] at hc
      cases hc
      rw [hs, List.getElem?_set] at hp
      by_cases hij : i = j
      · subst hij
        simp [hi] at hp
        subst hp
        exact ⟨r, _, hG, he, rfl, Or.inr ⟨rfl, rfl, rfl⟩⟩
      · rw [if_neg hij] at hp
        exact ⟨r, p, hG, hp, rfl, Or.inl rfl⟩
    · rw [wp_ne hca] at hc
      exact ⟨rc, p, hc, hp, rfl, Or.inl rfl⟩
  refine ⟨hz.trans h1, h0, fun q hlt => ?_, fun b kb rb hb => ⟨?_, fun j p hp => ?_⟩, fun b kb rb b' kb' rb' j j' p p' hb hb' hj hj' hjj => ?_⟩
  · rw [hq q (by omega)]; exact h2 q hlt
  · by_cases hba : b = a
    · subst hba; exact (h3 b kd r hG).1
    · rw [wp_ne hba] at hb; exact (h3 b kb rb hb).1
  · obtain ⟨rb', p', y1, y2, y3, y4⟩ := key hb hp
    obtain ⟨z1, z2⟩ := (h3 b kb rb' y1).2 j p' y2
    refine ⟨by rw [← y3]; exact z1, ?_⟩
    rcases y4 with y4 | ⟨y5, y6, y7⟩
    · subst y4
      by_cases hq0 : p'.1 = q0
      · obtain ⟨w1, w2⟩ := h4 b kb rb' a kd r j i p' _ y1 hG y2 he hq0
        subst w1; subst w2
        rw [wp_at] at hb
        cases hb
        rw [hs, List.getElem?_set] at hp
        simp [hi] at hp
        rw [← hp]
        exact hat
      · exact z2.kept (hq _ hq0)
    · rw [y7]; exact hat
  · obtain ⟨r1, p1, y1, y2, y3, -⟩ := key hb hj
    obtain ⟨r2, p2, w1, w2, w3, -⟩ := key hb' hj'
    exact h4 b kb r1 b' kb' r2 j j' p1 p2 y1 w1 y2 w2 (by rw [y3, w3]; exact hjj)
/-- words of the tables that don't ride in lw_all, but hold all through a run -/
def nwGood : Cond → Bool
  | .fieldLinkNest _ _ _ _ _ _ => true
  | .methodLinkNest _ _ _ _ => true
  | .declares _ => true
  | _ => false
theorem nw_warm {w : Cond} (hg : nwGood w = true) {s U : State} (hW : s.WarmedH U.vm) (h : va_Nw w s) : va_Nw w U := by
  cases w <;> first | exact va_Nw.warmF hW h | exact va_Nw.warmM hW h | exact va_Nw.warmD hW h | cases hg
theorem nw_same {w : Cond} (hg : nwGood w = true) {s U : State} (hW : s.vm = U.vm) (h : va_Nw w s) : va_Nw w U := by
  cases w <;> first | exact va_Nw.same rfl hW h | cases hg
/-- what the tables say, at any state of the run -/
def ST (g : Gh) (U : State) : Prop := va_K (gD g) (gcl g) (gty g) U ∧ (∀ w ∈ lw_tbl, nwGood w = true → va_Nw w U) ∧ gS g U ∧ (∀ s U : State, s.WarmedH U.vm → gS g s → gS g U) ∧ ∀ s U : State, s.vm = U.vm → gS g s → gS g U
theorem ST.warm {g : Gh} {s U : State} (hW : s.WarmedH U.vm) (h : ST g s) : ST g U := ⟨va_K.moved hW.alike h.1, fun w hw hn => nw_warm hn hW (h.2.1 w hw hn), h.2.2.2.1 s U hW h.2.2.1, h.2.2.2⟩
theorem ST.same {g : Gh} {s U : State} (hW : s.vm = U.vm) (h : ST g s) : ST g U := ⟨va_K.moved (by rw [hW]; exact Vm.Alike.refl _) h.1, fun w hw hn => nw_same hn hW (h.2.1 w hw hn), h.2.2.2.2 s U hW h.2.2.1, h.2.2.2⟩
/-- all that is fixed in a method's body -/
abbrev CX : Type := Program × Launch × Env × Room × State × MethodId × Array Value × List Frame × Method × Code × Gh × Nat × (State → Prop)
abbrev xp (X : CX) : Program := X.1
abbrev xl (X : CX) : Launch := X.2.1
abbrev xe (X : CX) : Env := X.2.2.1
abbrev xR (X : CX) : Room := X.2.2.2.1
abbrev xs (X : CX) : State := X.2.2.2.2.1
abbrev xm (X : CX) : MethodId := X.2.2.2.2.2.1
abbrev xa (X : CX) : Array Value := X.2.2.2.2.2.2.1
abbrev xb (X : CX) : List Frame := X.2.2.2.2.2.2.2.1
abbrev xt (X : CX) : Method := X.2.2.2.2.2.2.2.2.1
abbrev xc (X : CX) : Code := X.2.2.2.2.2.2.2.2.2.1
abbrev xg (X : CX) : Gh := X.2.2.2.2.2.2.2.2.2.2.1
abbrev xn (X : CX) : Nat := X.2.2.2.2.2.2.2.2.2.2.2.1
abbrev xQ (X : CX) : State → Prop := X.2.2.2.2.2.2.2.2.2.2.2.2
def V (X : CX) (k n : Nat) (G : Wd) (L : List (Nat × Value)) (st : List Value) (pc : Nat) : Prop :=
  k ≤ (xR X).cells → n ≤ (xR X).slots → ∀ (H : Heap) (locs : List Loc) (ls : Array Slot), GW (xg X) G H → (∀ q ∈ locs, gb (xg X) ≤ q.base) → lv_has ls (xn X) L →
    W (xp X) (xl X) (xe X) (xR X) (xs X) (xm X) (xa X) (xb X) (xt X) (xc X) H locs k n (xQ X) (F0 (xm X) pc ls st)
def OK (X : CX) (cc : ByteArray) (own : String) (ht : Nat) : Prop :=
  (xp X).tables.exec = Jvm.exec ∧ (xc X).code = cc ∧ (xc X).maxLocals = xn X ∧ (xs X).vm.findClass own = some (xm X).cls ∧ (∀ w ∈ lw_all, w.before (xa X) (xs X) = true) ∧ ST (xg X) (xs X) ∧ (xt X).locks = false ∧ (xR X).frames = ht ∧ (xR X).locals = 64 * ht
/-- a contract: from the ghost heap G, with these arguments, the answer r and the ghost heap G1; mc cells of ms slots may be new -/
def Qf (g : Gh) (r : Option Value) (G1 : Wd) : Array Value → State → Outcome → State → Prop := fun _ _ o t => o = .returned r ∧ GW g G1 t.heap
def MTa (l : Launch) (g : Gh) (y : MethodName) (cc : ByteArray) (nL : Nat) (ret : Option FieldType) (ht mc ms : Nat) (G : Wd) (As : List Value) (r : Option Value) (G1 : Wd) : Prop :=
  Met l y (ws_ y cc nL ret) ({ frames := ht, cells := mc, slots := ms, locals := 64 * ht }) (va_Pc As (fun U => ST g U ∧ GW g G U.heap)) (Qf g r G1) mc ms (fun q => gb g ≤ q)
abbrev MT (l : Launch) (g : Gh) (y : MethodName) (cc : ByteArray) (nL : Nat) (ret : Option FieldType) (ht : Nat) (G : Wd) (As : List Value) (r : Option Value) (G1 : Wd) : Prop := MTa l g y cc nL ret ht 0 0 G As r G1
theorem blindPc (g : Gh) (G : Wd) (As : List Value) : FrameBlind (va_Pc As (fun U => ST g U ∧ GW g G U.heap)) := by
  intro a U f mk h
  exact ⟨h.1, ST.same (s := U) (U := U.calling f mk a) rfl h.2.1, h.2.2⟩
/-- the start of a method's walk -/
theorem pv_start {l : Launch} {g : Gh} {y : MethodName} {cc : ByteArray} {nL : Nat} {ret : Option FieldType} {ht mc ms : Nat} {G : Wd} {As : List Value} {r : Option Value} {G1 : Wd} (hy : plainName y.cls = true) (hn : (lg_sl As).length ≤ nL)
    (body : ∀ X : CX, xl X = l → xg X = g → xn X = nL → OK X cc y.cls ht → (xt X).sig.returnType = ret → (xt X).name = y.name → (xR X).cells = mc → (xR X).slots = ms → xQ X = MQ (xb X) (Qf g r G1) (xa X) (xs X) mc ms (fun q => gb g ≤ q) → V X 0 0 G (lv_args 0 As) [] 0) :
    MTa l g y cc nL ret ht mc ms G As r G1 := by
  refine Met.ofW (cc := cc) (maxL := nL) (ret := ret) hy rfl ?_
  intro p e s m args below meth c s₁ B hml hv
  obtain ⟨rfl, hST, hG⟩ := hv
  have hts := atoms_spec (ws := ws_ y cc nL ret) B.pre
  have hts : ∀ w ∈ lw_all, w.before _ s = true := fun w h => hts w (List.mem_cons_of_mem _ h)
  have hl := lv_entry As (n := nL) hn
  rw [lg_entry_eq]
  have hb := body (p, l, e, { frames := ht, cells := mc, slots := ms, locals := 64 * ht }, s, m, As.toArray, below, meth, c, g, nL, MQ below (Qf g r G1) As.toArray s mc ms (fun q => gb g ≤ q)) rfl rfl rfl
    ⟨B.exec, B.bytes, hml, findClass_of_methodNamed B.named, hts, hST, B.notSynchronized, rfl, rfl⟩ B.returns (name_of_methodNamed B.named B.method).1 rfl rfl rfl (Nat.zero_le _) (Nat.zero_le _) s.heap [] _ hG (fun q hq => by cases hq) hl
  exact hb
def ushr (x y : Int32) : Int32 := (x.toUInt32 >>> (y.toUInt32 &&& Int32.toUInt32 31)).toInt32
section PV
variable {X : CX} {cc : ByteArray} {own : String} {ht k n : Nat} {G : Wd} {L : List (Nat × Value)} {st : List Value} {pc : Nat}
theorem pv_sub {L' : List (Nat × Value)} (ks : List Nat) (hL : lv_pick L ks = L') (h : V X k n G L' st pc) : V X k n G L st pc := fun hk hn H locs ls hG hS hl => h hk hn H locs ls hG hS (lv_sub hl ks hL)
theorem pv_pc {pc' : Nat} (e : pc = pc') (h : V X k n G L st pc') : V X k n G L st pc := e ▸ h
theorem pv_iconst (v : Int32) {i : Int} (hc : OK X cc own ht) (d : decode cc pc = .ok (.iconst i, 1)) (hv : Int32.ofInt i = v) (h : V X k n G L (.int v :: st) (pc + 1)) : V X k n G L st pc := fun hk hn H locs ls hG hS hl => lv_iconst hc.1 hc.2.1 d hv (h hk hn H locs ls hG hS hl)
theorem pv_bipush (v : Int32) {i : Int} (hc : OK X cc own ht) (d : decode cc pc = .ok (.bipush i, 2)) (hv : (Int8.ofInt i).toInt32 = v) (h : V X k n G L (.int v :: st) (pc + 2)) : V X k n G L st pc := fun hk hn H locs ls hG hS hl => lv_bipush hc.1 hc.2.1 d hv (h hk hn H locs ls hG hS hl)
theorem pv_sipush (v : Int32) {i : Int} (hc : OK X cc own ht) (d : decode cc pc = .ok (.sipush i, 3)) (hv : (Int16.ofInt i).toInt32 = v) (h : V X k n G L (.int v :: st) (pc + 3)) : V X k n G L st pc := fun hk hn H locs ls hG hS hl => lv_sipush hc.1 hc.2.1 d hv (h hk hn H locs ls hG hS hl)
theorem pv_ldc {v : Int32} {i : Nat} (hc : OK X cc own ht) (hw : Cond.constant own i v ∈ lw_all) (d : decode cc pc = .ok (.ldc i, 2)) (h : V X k n G L (.int v :: st) (pc + 2)) : V X k n G L st pc := fun hk hn H locs ls hG hS hl => lv_ldc hc.1 hc.2.1 hc.2.2.2.1 (hc.2.2.2.2.1 _ hw) d (h hk hn H locs ls hG hS hl)
theorem pv_ldcw {v : Int32} {i : Nat} (hc : OK X cc own ht) (hw : Cond.constant own i v ∈ lw_all) (d : decode cc pc = .ok (.ldc_w i, 3)) (h : V X k n G L (.int v :: st) (pc + 3)) : V X k n G L st pc := fun hk hn H locs ls hG hS hl => lv_ldcw hc.1 hc.2.1 hc.2.2.2.1 (hc.2.2.2.2.1 _ hw) d (h hk hn H locs ls hG hS hl)
theorem pv_ldc2 {v : Int64} {i : Nat} (hc : OK X cc own ht) (hw : Cond.constantLong own i v ∈ lw_all) (d : decode cc pc = .ok (.ldc2_w i, 3)) (h : V X k n G L (.long v :: st) (pc + 3)) : V X k n G L st pc := fun hk hn H locs ls hG hS hl => lv_ldc2 hc.1 hc.2.1 hc.2.2.2.1 (hc.2.2.2.2.1 _ hw) d (h hk hn H locs ls hG hS hl)
theorem pv_lconst (v : Int64) {i : Fin 2} (hc : OK X cc own ht) (d : decode cc pc = .ok (.lconst i, 1)) (hv : Int64.ofNat (i : Nat) = v) (h : V X k n G L (.long v :: st) (pc + 1)) : V X k n G L st pc := fun hk hn H locs ls hG hS hl => lv_lconst hc.1 hc.2.1 d hv (h hk hn H locs ls hG hS hl)
theorem pv_iload_n (j : Nat) {q : Fin 4} {i : Nat} {x : Int32} (hc : OK X cc own ht) (d : decode cc pc = .ok (.iload_n q, 1)) (hi : (q : Nat) = i) (hL : L[j]? = some (i, .int x)) (h : V X k n G L (.int x :: st) (pc + 1)) : V X k n G L st pc := fun hk hn H locs ls hG hS hl => lv_iload_n hc.1 hc.2.1 d hi (lv_at hl j hL) (h hk hn H locs ls hG hS hl)
theorem pv_iload (j : Nat) {i : Nat} {x : Int32} (hc : OK X cc own ht) (d : decode cc pc = .ok (.iload i, 2)) (hL : L[j]? = some (i, .int x)) (h : V X k n G L (.int x :: st) (pc + 2)) : V X k n G L st pc := fun hk hn H locs ls hG hS hl => lv_iload hc.1 hc.2.1 d (lv_at hl j hL) (h hk hn H locs ls hG hS hl)
theorem pv_lload_n (j : Nat) {q : Fin 4} {i : Nat} {x : Int64} (hc : OK X cc own ht) (d : decode cc pc = .ok (.lload_n q, 1)) (hi : (q : Nat) = i) (hL : L[j]? = some (i, .long x)) (h : V X k n G L (.long x :: st) (pc + 1)) : V X k n G L st pc := fun hk hn H locs ls hG hS hl => lv_lload_n hc.1 hc.2.1 d hi (lv_at hl j hL) (h hk hn H locs ls hG hS hl)
theorem pv_lload (j : Nat) {i : Nat} {x : Int64} (hc : OK X cc own ht) (d : decode cc pc = .ok (.lload i, 2)) (hL : L[j]? = some (i, .long x)) (h : V X k n G L (.long x :: st) (pc + 2)) : V X k n G L st pc := fun hk hn H locs ls hG hS hl => lv_lload hc.1 hc.2.1 d (lv_at hl j hL) (h hk hn H locs ls hG hS hl)
theorem pv_aload_n (j : Nat) {q : Fin 4} {i : Nat} {a : Nat} (hc : OK X cc own ht) (d : decode cc pc = .ok (.aload_n q, 1)) (hi : (q : Nat) = i) (hL : L[j]? = some (i, .ref a)) (h : V X k n G L (.ref a :: st) (pc + 1)) : V X k n G L st pc := fun hk hn H locs ls hG hS hl => lv_aload_n hc.1 hc.2.1 d hi (lv_at hl j hL) (h hk hn H locs ls hG hS hl)
theorem pv_aload (j : Nat) {i : Nat} {a : Nat} (hc : OK X cc own ht) (d : decode cc pc = .ok (.aload i, 2)) (hL : L[j]? = some (i, .ref a)) (h : V X k n G L (.ref a :: st) (pc + 2)) : V X k n G L st pc := fun hk hn H locs ls hG hS hl => lv_aload hc.1 hc.2.1 d (lv_at hl j hL) (h hk hn H locs ls hG hS hl)
theorem pv_istore_n {L' : List (Nat × Value)} {q : Fin 4} {i : Nat} {x : Int32} (hc : OK X cc own ht) (d : decode cc pc = .ok (.istore_n q, 1)) (hi : (q : Nat) = i) {N : Nat} (hN : xn X = N) (hiN : i < N) (hL : (i, Value.int x) :: L.filter (fun q => !(q.1 == i) && !(q.1 + 1 == i && q.2.category == 2)) = L') (h : V X k n G L' st (pc + 1)) : V X k n G L (.int x :: st) pc := fun hk hn H locs ls hG hS hl => lv_istore_n hc.1 hc.2.1 d hi hl (by rw [hN]; exact hiN) hL (fun ls' hl' => h hk hn H locs ls' hG hS hl')
theorem pv_istore {L' : List (Nat × Value)} {i : Nat} {x : Int32} (hc : OK X cc own ht) (d : decode cc pc = .ok (.istore i, 2)) {N : Nat} (hN : xn X = N) (hiN : i < N) (hL : (i, Value.int x) :: L.filter (fun q => !(q.1 == i) && !(q.1 + 1 == i && q.2.category == 2)) = L') (h : V X k n G L' st (pc + 2)) : V X k n G L (.int x :: st) pc := fun hk hn H locs ls hG hS hl => lv_istore hc.1 hc.2.1 d hl (by rw [hN]; exact hiN) hL (fun ls' hl' => h hk hn H locs ls' hG hS hl')
theorem pv_iadd {x y : Int32} (hc : OK X cc own ht) (d : decode cc pc = .ok (.iadd, 1)) (h : V X k n G L (.int (x + y) :: st) (pc + 1)) : V X k n G L (.int y :: .int x :: st) pc := fun hk hn H locs ls hG hS hl => lv_iadd hc.1 hc.2.1 d (h hk hn H locs ls hG hS hl)
theorem pv_isub {x y : Int32} (hc : OK X cc own ht) (d : decode cc pc = .ok (.isub, 1)) (h : V X k n G L (.int (x - y) :: st) (pc + 1)) : V X k n G L (.int y :: .int x :: st) pc := fun hk hn H locs ls hG hS hl => lv_isub hc.1 hc.2.1 d (h hk hn H locs ls hG hS hl)
theorem pv_imul {x y : Int32} (hc : OK X cc own ht) (d : decode cc pc = .ok (.imul, 1)) (h : V X k n G L (.int (x * y) :: st) (pc + 1)) : V X k n G L (.int y :: .int x :: st) pc := fun hk hn H locs ls hG hS hl => lv_imul hc.1 hc.2.1 d (h hk hn H locs ls hG hS hl)
theorem pv_iand {x y : Int32} (hc : OK X cc own ht) (d : decode cc pc = .ok (.iand, 1)) (h : V X k n G L (.int (x &&& y) :: st) (pc + 1)) : V X k n G L (.int y :: .int x :: st) pc := fun hk hn H locs ls hG hS hl => lv_iand hc.1 hc.2.1 d (h hk hn H locs ls hG hS hl)
theorem pv_ior {x y : Int32} (hc : OK X cc own ht) (d : decode cc pc = .ok (.ior, 1)) (h : V X k n G L (.int (x ||| y) :: st) (pc + 1)) : V X k n G L (.int y :: .int x :: st) pc := fun hk hn H locs ls hG hS hl => lv_ior hc.1 hc.2.1 d (h hk hn H locs ls hG hS hl)
theorem pv_ixor {x y : Int32} (hc : OK X cc own ht) (d : decode cc pc = .ok (.ixor, 1)) (h : V X k n G L (.int (x ^^^ y) :: st) (pc + 1)) : V X k n G L (.int y :: .int x :: st) pc := fun hk hn H locs ls hG hS hl => lv_ixor hc.1 hc.2.1 d (h hk hn H locs ls hG hS hl)
theorem pv_ladd {x y : Int64} (hc : OK X cc own ht) (d : decode cc pc = .ok (.ladd, 1)) (h : V X k n G L (.long (x + y) :: st) (pc + 1)) : V X k n G L (.long y :: .long x :: st) pc := fun hk hn H locs ls hG hS hl => lv_ladd hc.1 hc.2.1 d (h hk hn H locs ls hG hS hl)
theorem pv_lsub {x y : Int64} (hc : OK X cc own ht) (d : decode cc pc = .ok (.lsub, 1)) (h : V X k n G L (.long (x - y) :: st) (pc + 1)) : V X k n G L (.long y :: .long x :: st) pc := fun hk hn H locs ls hG hS hl => lv_lsub hc.1 hc.2.1 d (h hk hn H locs ls hG hS hl)
theorem pv_lmul {x y : Int64} (hc : OK X cc own ht) (d : decode cc pc = .ok (.lmul, 1)) (h : V X k n G L (.long (x * y) :: st) (pc + 1)) : V X k n G L (.long y :: .long x :: st) pc := fun hk hn H locs ls hG hS hl => lv_lmul hc.1 hc.2.1 d (h hk hn H locs ls hG hS hl)
theorem pv_land {x y : Int64} (hc : OK X cc own ht) (d : decode cc pc = .ok (.land, 1)) (h : V X k n G L (.long (x &&& y) :: st) (pc + 1)) : V X k n G L (.long y :: .long x :: st) pc := fun hk hn H locs ls hG hS hl => lv_land hc.1 hc.2.1 d (h hk hn H locs ls hG hS hl)
theorem pv_lor {x y : Int64} (hc : OK X cc own ht) (d : decode cc pc = .ok (.lor, 1)) (h : V X k n G L (.long (x ||| y) :: st) (pc + 1)) : V X k n G L (.long y :: .long x :: st) pc := fun hk hn H locs ls hG hS hl => lv_lor hc.1 hc.2.1 d (h hk hn H locs ls hG hS hl)
theorem pv_lxor {x y : Int64} (hc : OK X cc own ht) (d : decode cc pc = .ok (.lxor, 1)) (h : V X k n G L (.long (x ^^^ y) :: st) (pc + 1)) : V X k n G L (.long y :: .long x :: st) pc := fun hk hn H locs ls hG hS hl => lv_lxor hc.1 hc.2.1 d (h hk hn H locs ls hG hS hl)
theorem pv_ineg {x : Int32} (hc : OK X cc own ht) (d : decode cc pc = .ok (.ineg, 1)) (h : V X k n G L (.int (-x) :: st) (pc + 1)) : V X k n G L (.int x :: st) pc := fun hk hn H locs ls hG hS hl => lv_ineg hc.1 hc.2.1 d (h hk hn H locs ls hG hS hl)
theorem pv_ishl {x y : Int32} (hc : OK X cc own ht) (d : decode cc pc = .ok (.ishl, 1)) (h : V X k n G L (.int (x <<< (y &&& 31)) :: st) (pc + 1)) : V X k n G L (.int y :: .int x :: st) pc := fun hk hn H locs ls hG hS hl => lv_ishl hc.1 hc.2.1 d (h hk hn H locs ls hG hS hl)
theorem pv_ishr {x y : Int32} (hc : OK X cc own ht) (d : decode cc pc = .ok (.ishr, 1)) (h : V X k n G L (.int (x >>> (y &&& 31)) :: st) (pc + 1)) : V X k n G L (.int y :: .int x :: st) pc := fun hk hn H locs ls hG hS hl => lv_ishr hc.1 hc.2.1 d (h hk hn H locs ls hG hS hl)
theorem pv_iushr {x y : Int32} (hc : OK X cc own ht) (d : decode cc pc = .ok (.iushr, 1)) (h : V X k n G L (.int (ushr x y) :: st) (pc + 1)) : V X k n G L (.int y :: .int x :: st) pc := fun hk hn H locs ls hG hS hl => lv_iushr hc.1 hc.2.1 d rfl (h hk hn H locs ls hG hS hl)
theorem pv_lshl {x : Int64} {y : Int32} (hc : OK X cc own ht) (d : decode cc pc = .ok (.lshl, 1)) (h : V X k n G L (.long (x <<< (y.toInt64 &&& 63)) :: st) (pc + 1)) : V X k n G L (.int y :: .long x :: st) pc := fun hk hn H locs ls hG hS hl => lv_lshl hc.1 hc.2.1 d rfl (h hk hn H locs ls hG hS hl)
theorem pv_lshr {x : Int64} {y : Int32} (hc : OK X cc own ht) (d : decode cc pc = .ok (.lshr, 1)) (h : V X k n G L (.long (x >>> (y.toInt64 &&& 63)) :: st) (pc + 1)) : V X k n G L (.int y :: .long x :: st) pc := fun hk hn H locs ls hG hS hl => lv_lshr hc.1 hc.2.1 d rfl (h hk hn H locs ls hG hS hl)
theorem pv_i2l {x : Int32} (hc : OK X cc own ht) (d : decode cc pc = .ok (.i2l, 1)) (h : V X k n G L (.long x.toInt64 :: st) (pc + 1)) : V X k n G L (.int x :: st) pc := fun hk hn H locs ls hG hS hl => lv_i2l hc.1 hc.2.1 d rfl (h hk hn H locs ls hG hS hl)
theorem pv_l2i {x : Int64} (hc : OK X cc own ht) (d : decode cc pc = .ok (.l2i, 1)) (h : V X k n G L (.int x.toInt32 :: st) (pc + 1)) : V X k n G L (.long x :: st) pc := fun hk hn H locs ls hG hS hl => lv_l2i hc.1 hc.2.1 d rfl (h hk hn H locs ls hG hS hl)
theorem pv_i2b {x : Int32} (hc : OK X cc own ht) (d : decode cc pc = .ok (.i2b, 1)) (h : V X k n G L (.int x.toInt8.toInt32 :: st) (pc + 1)) : V X k n G L (.int x :: st) pc := fun hk hn H locs ls hG hS hl => lv_i2b hc.1 hc.2.1 d rfl (h hk hn H locs ls hG hS hl)
theorem pv_dup {va : Value} (hc : OK X cc own ht) (d : decode cc pc = .ok (.dup, 1)) (hva : va.category = 1) (h : V X k n G L (va :: va :: st) (pc + 1)) : V X k n G L (va :: st) pc := fun hk hn H locs ls hG hS hl => lv_dup hc.1 hc.2.1 d hva (h hk hn H locs ls hG hS hl)
theorem pv_pop {va : Value} (hc : OK X cc own ht) (d : decode cc pc = .ok (.pop, 1)) (hva : va.category = 1) (h : V X k n G L (st) (pc + 1)) : V X k n G L (va :: st) pc := fun hk hn H locs ls hG hS hl => lv_pop hc.1 hc.2.1 d hva (h hk hn H locs ls hG hS hl)
theorem pv_dup_x1 {va vb : Value} (hc : OK X cc own ht) (d : decode cc pc = .ok (.dup_x1, 1)) (hva : va.category = 1) (hvb : vb.category = 1) (h : V X k n G L (va :: vb :: va :: st) (pc + 1)) : V X k n G L (va :: vb :: st) pc := fun hk hn H locs ls hG hS hl => lv_dup_x1 hc.1 hc.2.1 d hva hvb (h hk hn H locs ls hG hS hl)
theorem pv_dup2_11 {va vb : Value} (hc : OK X cc own ht) (d : decode cc pc = .ok (.dup2, 1)) (hva : va.category = 1) (hvb : vb.category = 1) (h : V X k n G L (va :: vb :: va :: vb :: st) (pc + 1)) : V X k n G L (va :: vb :: st) pc := fun hk hn H locs ls hG hS hl => lv_dup2_11 hc.1 hc.2.1 d hva hvb (h hk hn H locs ls hG hS hl)
theorem pv_idiv {x y : Int32} (hc : OK X cc own ht) (d : decode cc pc = .ok (.idiv, 1)) (hne : ¬ y = 0) (h : V X k n G L (.int (x / y) :: st) (pc + 1)) : V X k n G L (.int y :: .int x :: st) pc := fun hk hn H locs ls hG hS hl => lv_idiv hc.1 hc.2.1 d hne (h hk hn H locs ls hG hS hl)
theorem pv_irem {x y : Int32} (hc : OK X cc own ht) (d : decode cc pc = .ok (.irem, 1)) (hne : ¬ y = 0) (h : V X k n G L (.int (x - x / y * y) :: st) (pc + 1)) : V X k n G L (.int y :: .int x :: st) pc := fun hk hn H locs ls hG hS hl => lv_irem hc.1 hc.2.1 d hne (h hk hn H locs ls hG hS hl)
theorem pv_ldiv {x y : Int64} (hc : OK X cc own ht) (d : decode cc pc = .ok (.ldiv, 1)) (hne : ¬ y = 0) (h : V X k n G L (.long (x / y) :: st) (pc + 1)) : V X k n G L (.long y :: .long x :: st) pc := fun hk hn H locs ls hG hS hl => lv_ldiv hc.1 hc.2.1 d hne (h hk hn H locs ls hG hS hl)
theorem pv_lrem {x y : Int64} (hc : OK X cc own ht) (d : decode cc pc = .ok (.lrem, 1)) (hne : ¬ y = 0) (h : V X k n G L (.long (x - x / y * y) :: st) (pc + 1)) : V X k n G L (.long y :: .long x :: st) pc := fun hk hn H locs ls hG hS hl => lv_lrem hc.1 hc.2.1 d hne (h hk hn H locs ls hG hS hl)
theorem pv_lcmp {x y : Int64} (hc : OK X cc own ht) (d : decode cc pc = .ok (.lcmp, 1)) (h : V X k n G L (.int (lg_cmp x y) :: st) (pc + 1)) : V X k n G L (.long y :: .long x :: st) pc := fun hk hn H locs ls hG hS hl => W.lcmp hc.1 hc.2.1 d (h hk hn H locs ls hG hS hl)
theorem pv_goto {off : Int} {tgt : Nat} (hc : OK X cc own ht) (d : decode cc pc = .ok (.goto off, 3)) (t : (pc : Int) + off = (tgt : Int)) (h : V X k n G L st tgt) : V X k n G L st pc := fun hk hn H locs ls hG hS hl => lv_goto hc.1 hc.2.1 d t (h hk hn H locs ls hG hS hl)
theorem pv_if_eq {α : Type} {A B : Option α} {r : α} {x : Int32} {off : Int} {tgt : Nat} (hc : OK X cc own ht) (d : decode cc pc = .ok (.ifCond .eq off, 3)) (t : (pc : Int) + off = (tgt : Int)) (h : (if x = 0 then A else B) = some r) (k1 : A = some r → V X k n G L st tgt) (k2 : B = some r → V X k n G L st (pc + 3)) : V X k n G L (.int x :: st) pc := fun hk hn H locs ls hG hS hl => lv_if_eq hc.1 hc.2.1 d t (fun c => k1 (by rw [← h, if_pos c]) hk hn H locs ls hG hS hl) (fun c => k2 (by rw [← h, if_neg c]) hk hn H locs ls hG hS hl)
theorem pv_icmp_eq {α : Type} {A B : Option α} {r : α} {x y : Int32} {off : Int} {tgt : Nat} (hc : OK X cc own ht) (d : decode cc pc = .ok (.if_icmp .eq off, 3)) (t : (pc : Int) + off = (tgt : Int)) (h : (if x = y then A else B) = some r) (k1 : A = some r → V X k n G L st tgt) (k2 : B = some r → V X k n G L st (pc + 3)) : V X k n G L (.int y :: .int x :: st) pc := fun hk hn H locs ls hG hS hl => lv_icmp_eq hc.1 hc.2.1 d t (fun c => k1 (by rw [← h, if_pos c]) hk hn H locs ls hG hS hl) (fun c => k2 (by rw [← h, if_neg c]) hk hn H locs ls hG hS hl)
theorem pv_if_ne {α : Type} {A B : Option α} {r : α} {x : Int32} {off : Int} {tgt : Nat} (hc : OK X cc own ht) (d : decode cc pc = .ok (.ifCond .ne off, 3)) (t : (pc : Int) + off = (tgt : Int)) (h : (if x = 0 then B else A) = some r) (k1 : A = some r → V X k n G L st tgt) (k2 : B = some r → V X k n G L st (pc + 3)) : V X k n G L (.int x :: st) pc := fun hk hn H locs ls hG hS hl => lv_if_ne hc.1 hc.2.1 d t (fun c => k1 (by rw [← h, if_neg c]) hk hn H locs ls hG hS hl) (fun c => k2 (by rw [← h, if_pos c]) hk hn H locs ls hG hS hl)
theorem pv_icmp_ne {α : Type} {A B : Option α} {r : α} {x y : Int32} {off : Int} {tgt : Nat} (hc : OK X cc own ht) (d : decode cc pc = .ok (.if_icmp .ne off, 3)) (t : (pc : Int) + off = (tgt : Int)) (h : (if x = y then B else A) = some r) (k1 : A = some r → V X k n G L st tgt) (k2 : B = some r → V X k n G L st (pc + 3)) : V X k n G L (.int y :: .int x :: st) pc := fun hk hn H locs ls hG hS hl => lv_icmp_ne hc.1 hc.2.1 d t (fun c => k1 (by rw [← h, if_neg c]) hk hn H locs ls hG hS hl) (fun c => k2 (by rw [← h, if_pos c]) hk hn H locs ls hG hS hl)
theorem pv_if_lt {α : Type} {A B : Option α} {r : α} {x : Int32} {off : Int} {tgt : Nat} (hc : OK X cc own ht) (d : decode cc pc = .ok (.ifCond .lt off, 3)) (t : (pc : Int) + off = (tgt : Int)) (h : (if x < 0 then A else B) = some r) (k1 : A = some r → V X k n G L st tgt) (k2 : B = some r → V X k n G L st (pc + 3)) : V X k n G L (.int x :: st) pc := fun hk hn H locs ls hG hS hl => lv_if_lt hc.1 hc.2.1 d t (fun c => k1 (by rw [← h, if_pos c]) hk hn H locs ls hG hS hl) (fun c => k2 (by rw [← h, if_neg c]) hk hn H locs ls hG hS hl)
theorem pv_icmp_lt {α : Type} {A B : Option α} {r : α} {x y : Int32} {off : Int} {tgt : Nat} (hc : OK X cc own ht) (d : decode cc pc = .ok (.if_icmp .lt off, 3)) (t : (pc : Int) + off = (tgt : Int)) (h : (if x < y then A else B) = some r) (k1 : A = some r → V X k n G L st tgt) (k2 : B = some r → V X k n G L st (pc + 3)) : V X k n G L (.int y :: .int x :: st) pc := fun hk hn H locs ls hG hS hl => lv_icmp_lt hc.1 hc.2.1 d t (fun c => k1 (by rw [← h, if_pos c]) hk hn H locs ls hG hS hl) (fun c => k2 (by rw [← h, if_neg c]) hk hn H locs ls hG hS hl)
theorem pv_if_ge {α : Type} {A B : Option α} {r : α} {x : Int32} {off : Int} {tgt : Nat} (hc : OK X cc own ht) (d : decode cc pc = .ok (.ifCond .ge off, 3)) (t : (pc : Int) + off = (tgt : Int)) (h : (if 0 ≤ x then A else B) = some r) (k1 : A = some r → V X k n G L st tgt) (k2 : B = some r → V X k n G L st (pc + 3)) : V X k n G L (.int x :: st) pc := fun hk hn H locs ls hG hS hl => lv_if_ge hc.1 hc.2.1 d t (fun c => k1 (by rw [← h, if_pos c]) hk hn H locs ls hG hS hl) (fun c => k2 (by rw [← h, if_neg c]) hk hn H locs ls hG hS hl)
theorem pv_icmp_ge {α : Type} {A B : Option α} {r : α} {x y : Int32} {off : Int} {tgt : Nat} (hc : OK X cc own ht) (d : decode cc pc = .ok (.if_icmp .ge off, 3)) (t : (pc : Int) + off = (tgt : Int)) (h : (if y ≤ x then A else B) = some r) (k1 : A = some r → V X k n G L st tgt) (k2 : B = some r → V X k n G L st (pc + 3)) : V X k n G L (.int y :: .int x :: st) pc := fun hk hn H locs ls hG hS hl => lv_icmp_ge hc.1 hc.2.1 d t (fun c => k1 (by rw [← h, if_pos c]) hk hn H locs ls hG hS hl) (fun c => k2 (by rw [← h, if_neg c]) hk hn H locs ls hG hS hl)
theorem pv_if_gt {α : Type} {A B : Option α} {r : α} {x : Int32} {off : Int} {tgt : Nat} (hc : OK X cc own ht) (d : decode cc pc = .ok (.ifCond .gt off, 3)) (t : (pc : Int) + off = (tgt : Int)) (h : (if 0 < x then A else B) = some r) (k1 : A = some r → V X k n G L st tgt) (k2 : B = some r → V X k n G L st (pc + 3)) : V X k n G L (.int x :: st) pc := fun hk hn H locs ls hG hS hl => lv_if_gt hc.1 hc.2.1 d t (fun c => k1 (by rw [← h, if_pos c]) hk hn H locs ls hG hS hl) (fun c => k2 (by rw [← h, if_neg c]) hk hn H locs ls hG hS hl)
theorem pv_icmp_gt {α : Type} {A B : Option α} {r : α} {x y : Int32} {off : Int} {tgt : Nat} (hc : OK X cc own ht) (d : decode cc pc = .ok (.if_icmp .gt off, 3)) (t : (pc : Int) + off = (tgt : Int)) (h : (if y < x then A else B) = some r) (k1 : A = some r → V X k n G L st tgt) (k2 : B = some r → V X k n G L st (pc + 3)) : V X k n G L (.int y :: .int x :: st) pc := fun hk hn H locs ls hG hS hl => lv_icmp_gt hc.1 hc.2.1 d t (fun c => k1 (by rw [← h, if_pos c]) hk hn H locs ls hG hS hl) (fun c => k2 (by rw [← h, if_neg c]) hk hn H locs ls hG hS hl)
theorem pv_if_le {α : Type} {A B : Option α} {r : α} {x : Int32} {off : Int} {tgt : Nat} (hc : OK X cc own ht) (d : decode cc pc = .ok (.ifCond .le off, 3)) (t : (pc : Int) + off = (tgt : Int)) (h : (if x ≤ 0 then A else B) = some r) (k1 : A = some r → V X k n G L st tgt) (k2 : B = some r → V X k n G L st (pc + 3)) : V X k n G L (.int x :: st) pc := fun hk hn H locs ls hG hS hl => lv_if_le hc.1 hc.2.1 d t (fun c => k1 (by rw [← h, if_pos c]) hk hn H locs ls hG hS hl) (fun c => k2 (by rw [← h, if_neg c]) hk hn H locs ls hG hS hl)
theorem pv_icmp_le {α : Type} {A B : Option α} {r : α} {x y : Int32} {off : Int} {tgt : Nat} (hc : OK X cc own ht) (d : decode cc pc = .ok (.if_icmp .le off, 3)) (t : (pc : Int) + off = (tgt : Int)) (h : (if x ≤ y then A else B) = some r) (k1 : A = some r → V X k n G L st tgt) (k2 : B = some r → V X k n G L st (pc + 3)) : V X k n G L (.int y :: .int x :: st) pc := fun hk hn H locs ls hG hS hl => lv_icmp_le hc.1 hc.2.1 d t (fun c => k1 (by rw [← h, if_pos c]) hk hn H locs ls hG hS hl) (fun c => k2 (by rw [← h, if_neg c]) hk hn H locs ls hG hS hl)
theorem pv_lstore {L' : List (Nat × Value)} {i : Nat} {x : Int64} {N : Nat} (hc : OK X cc own ht) (d : decode cc pc = .ok (.lstore i, 2)) (hN : xn X = N) (hiN : i + 1 < N) (hL : (i, Value.long x) :: L.filter (fun q => !(q.1 == i) && (!(q.1 == i + 1) && !(q.1 + 1 == i && q.2.category == 2))) = L') (h : V X k n G L' st (pc + 2)) : V X k n G L (.long x :: st) pc := fun hk hn H locs ls hG hS hl => lv_lstore hc.1 hc.2.1 d hl (by rw [hN]; exact hiN) hL (fun ls' hl' => h hk hn H locs ls' hG hS hl')
theorem pv_lstore_n {L' : List (Nat × Value)} {q : Fin 4} {i : Nat} {x : Int64} {N : Nat} (hc : OK X cc own ht) (d : decode cc pc = .ok (.lstore_n q, 1)) (hi : (q : Nat) = i) (hN : xn X = N) (hiN : i + 1 < N) (hL : (i, Value.long x) :: L.filter (fun q => !(q.1 == i) && (!(q.1 == i + 1) && !(q.1 + 1 == i && q.2.category == 2))) = L') (h : V X k n G L' st (pc + 1)) : V X k n G L (.long x :: st) pc := fun hk hn H locs ls hG hS hl => lv_lstore_n hc.1 hc.2.1 d hi hl (by rw [hN]; exact hiN) hL (fun ls' hl' => h hk hn H locs ls' hG hS hl')
theorem pv_astore_n {L' : List (Nat × Value)} {q : Fin 4} {i : Nat} {x : Nat} {N : Nat} (hc : OK X cc own ht) (d : decode cc pc = .ok (.astore_n q, 1)) (hi : (q : Nat) = i) (hN : xn X = N) (hiN : i < N) (hL : (i, Value.ref x) :: L.filter (fun q => !(q.1 == i) && !(q.1 + 1 == i && q.2.category == 2)) = L') (h : V X k n G L' st (pc + 1)) : V X k n G L (.ref x :: st) pc := fun hk hn H locs ls hG hS hl => lv_astore_n hc.1 hc.2.1 d hi hl (by rw [hN]; exact hiN) hL (fun ls' hl' => h hk hn H locs ls' hG hS hl')
theorem pv_astore {L' : List (Nat × Value)} {i : Nat} {x : Nat} {N : Nat} (hc : OK X cc own ht) (d : decode cc pc = .ok (.astore i, 2)) (hN : xn X = N) (hiN : i < N) (hL : (i, Value.ref x) :: L.filter (fun q => !(q.1 == i) && !(q.1 + 1 == i && q.2.category == 2)) = L') (h : V X k n G L' st (pc + 2)) : V X k n G L (.ref x :: st) pc := fun hk hn H locs ls hG hS hl => lv_astore hc.1 hc.2.1 d hl (by rw [hN]; exact hiN) hL (fun ls' hl' => h hk hn H locs ls' hG hS hl')
theorem pv_iinc {L' : List (Nat × Value)} (j : Nat) {i : Nat} {z : Int} {x : Int32} (v : Int32) {N : Nat} (hc : OK X cc own ht) (d : decode cc pc = .ok (.iinc i z, 3)) (hj : L[j]? = some (i, .int x)) (hv : x + Int32.ofInt z = v) (hN : xn X = N) (hiN : i < N) (hL : (i, Value.int v) :: L.filter (fun q => !(q.1 == i) && !(q.1 + 1 == i && q.2.category == 2)) = L') (h : V X k n G L' st (pc + 3)) : V X k n G L st pc := fun hk hn H locs ls hG hS hl => lv_iinc hc.1 hc.2.1 d hl hj hv (by rw [hN]; exact hiN) hL (fun ls' hl' => h hk hn H locs ls' hG hS hl')
theorem pv_tableIn {dflt lo hi : Int} {offs : Array Int} {len : Nat} {x : Int32} {off : Int} {tgt : Nat} (hc : OK X cc own ht) (d : decode cc pc = .ok (.tableswitch dflt lo hi offs, len)) (h1 : ¬ x.toInt < lo) (h2 : ¬ hi < x.toInt) (ho : offs[(x.toInt - lo).toNat]? = some off) (t : (pc : Int) + off = (tgt : Int)) (h : V X k n G L st tgt) : V X k n G L (.int x :: st) pc := fun hk hn H locs ls hG hS hl => lv_tableIn hc.1 hc.2.1 d h1 h2 ho t (h hk hn H locs ls hG hS hl)
theorem pv_tableOut {dflt lo hi : Int} {offs : Array Int} {len : Nat} {x : Int32} {tgt : Nat} (hc : OK X cc own ht) (d : decode cc pc = .ok (.tableswitch dflt lo hi offs, len)) (h1 : x.toInt < lo ∨ hi < x.toInt) (t : (pc : Int) + dflt = (tgt : Int)) (h : V X k n G L st tgt) : V X k n G L (.int x :: st) pc := fun hk hn H locs ls hG hS hl => lv_tableOut hc.1 hc.2.1 d h1 t (h hk hn H locs ls hG hS hl)
theorem pv_lookup {dflt : Int} {ps : Array (Int × Int)} {len : Nat} {x : Int32} {off : Int} {tgt : Nat} (hc : OK X cc own ht) (d : decode cc pc = .ok (.lookupswitch dflt ps, len)) (hp : (ps.toList.zip (ps.toList.drop 1)).all (fun (a, next) => a.1 < next.1) = true) (ho : Op.lookupswitch.offset ps.toList dflt x.toInt = off) (t : (pc : Int) + off = (tgt : Int)) (h : V X k n G L st tgt) : V X k n G L (.int x :: st) pc := fun hk hn H locs ls hG hS hl => lv_lookup hc.1 hc.2.1 d hp ho t (h hk hn H locs ls hG hS hl)
end PV
/-! pure combinators: what a method computes is written with these -/
def FU : Nat := 100000
theorem FU_ge {n : Nat} (h : n ≤ 5000) : ∃ m, FU = m + n := ⟨100000 - n, by unfold FU; omega⟩
def IX {α : Type} (i : Int32) (N : Nat) (f : Nat → Option α) : Option α := if i < 0 ∨ N ≤ i.toNatClampNeg then none else f i.toNatClampNeg
theorem IX_el {α : Type} {i : Int32} {N : Nat} {f : Nat → Option α} {r : α} (h : IX i N f = some r) : ∃ j, (vp_in i N ∧ i.toNatClampNeg = j) ∧ f j = some r := by
  unfold IX at h
  by_cases hc : i < 0 ∨ N ≤ i.toNatClampNeg
  · rw [if_pos hc] at h; cases h
  · rw [if_neg hc] at h; exact ⟨_, ⟨hc, rfl⟩, h⟩
theorem IX_nI {α : Type} {j N : Nat} (f : Nat → Option α) (h : j < N) (hN : N < 2 ^ 31) : IX (nI j) N f = f j := by
  have h1 := vp_in_nI h hN
  unfold vp_in at h1
  unfold IX
  rw [if_neg h1, nI_clamp (by omega)]
def LT {α β : Type} (e : α) (k : α → Option β) : Option β := k e
theorem LT_el {α β : Type} {e : α} {k : α → Option β} {r : β} (h : LT e k = some r) : ∃ x, x = e ∧ k x = some r := ⟨e, rfl, h⟩
def BD {α β : Type} (o : Option α) (k : α → Option β) : Option β := match o with | none => none | some x => k x
theorem BD_some {α β : Type} (x : α) (k : α → Option β) : BD (some x) k = k x := rfl
theorem BD_el {α β : Type} {o : Option α} {k : α → Option β} {r : β} (h : BD o k = some r) : ∃ x, o = some x ∧ k x = some r := by
  cases o with
  | none => cases h
  | some x => exact ⟨x, rfl, h⟩
def BD2 {α γ β : Type} (o : Option (α × γ)) (k : α → γ → Option β) : Option β := match o with | none => none | some x => k x.1 x.2
theorem BD2_some {α γ β : Type} (x : α) (y : γ) (k : α → γ → Option β) : BD2 (some (x, y)) k = k x y := rfl
theorem BD2_el {α γ β : Type} {o : Option (α × γ)} {k : α → γ → Option β} {r : β} (h : BD2 o k = some r) : ∃ x y, o = some (x, y) ∧ k x y = some r := by
  cases o with
  | none => cases h
  | some x => exact ⟨x.1, x.2, rfl, h⟩
def NZ {β : Type} (y : Int32) (k : Option β) : Option β := if y = 0 then none else k
theorem NZ_el {β : Type} {y : Int32} {k : Option β} {r : β} (h : NZ y k = some r) : ¬ y = 0 ∧ k = some r := by
  unfold NZ at h
  by_cases hc : y = 0
  · rw [if_pos hc] at h; cases h
  · rw [if_neg hc] at h; exact ⟨hc, h⟩
theorem NZ_of {β : Type} {y : Int32} (k : Option β) (h : ¬ y = 0) : NZ y k = k := if_neg h
def NZL {β : Type} (y : Int64) (k : Option β) : Option β := if y = 0 then none else k
theorem NZL_el {β : Type} {y : Int64} {k : Option β} {r : β} (h : NZL y k = some r) : ¬ y = 0 ∧ k = some r := by
  unfold NZL at h
  by_cases hc : y = 0
  · rw [if_pos hc] at h; cases h
  · rw [if_neg hc] at h; exact ⟨hc, h⟩
/-- a boolean that is answered, passed on or stored is 0 or 1 -/
def BZ {β : Type} (y : Int32) (k : Option β) : Option β := if y = 0 ∨ y = 1 then k else none
theorem BZ_el {β : Type} {y : Int32} {k : Option β} {r : β} (h : BZ y k = some r) : (y = 0 ∨ y = 1) ∧ k = some r := by
  unfold BZ at h
  by_cases hc : y = 0 ∨ y = 1
  · rw [if_pos hc] at h; exact ⟨hc, h⟩
  · rw [if_neg hc] at h; cases h
theorem BZ_0 {β : Type} (k : Option β) : BZ 0 k = k := rfl
theorem BZ_1 {β : Type} (k : Option β) : BZ 1 k = k := rfl
theorem nar_z {y : Int32} (h : y = 0 ∨ y = 1) : narrow .boolean (.int y) = .int y := by
  rcases h with rfl | rfl <;> rfl
theorem fit_z {y : Int32} (h : y = 0 ∨ y = 1) : fits .boolean (.int y) = true := by
  rcases h with rfl | rfl <;> rfl
section PH
variable {X : CX} {cc : ByteArray} {own : String} {ht k n : Nat} {G : Wd} {L : List (Nat × Value)} {st : List Value} {pc : Nat}
/-- a field of an object, by its own class's link -/
theorem pv_get {ref C : String} {T : u_T} {N ci index kd a ie o : Nat} {r : Rec} {fs : List Value} {v : Value} (hc : OK X cc own ht) (hG : G.2 a = some (kd, r)) (he : (gE (xg X) kd a r)[ie]? = some (o, .inr (ci, fs))) (hcl : (gcl (xg X))[ci]? = some (C, T, N)) (hin : ∀ w ∈ u_ws C T N, w ∈ lw_all) (j : Nat) (hj : j < N) (hlink : Cond.fieldLink own index ref (T j).2.1 (T j).2.2.1 ∈ lw_all) (hsame : ∀ x, (xs X).fieldFound? (T j).1 (T j).2.1 (T j).2.2.1 = some x → (xs X).fieldFound? ref (T j).2.1 (T j).2.2.1 = some x) (hv : fs[j]? = some v) (d : decode cc pc = .ok (.getfield index, 3)) (h : V X k n G L (v :: st) (pc + 3)) : V X k n G L (.ref o :: st) pc :=
  fun hk hn H locs ls hW hS hl => va_get hc.1 hc.2.1 hc.2.2.2.2.1 hin hc.2.2.2.1 hc.2.2.2.2.2.1.1 (hW.P hG he) 0 rfl hcl j hj (hc.2.2.2.2.1 _ hlink) hsame hv d (h hk hn H locs ls hW hS hl)
theorem pv_getN {ref C host : String} {T : u_T} {N ci index kd a ie o : Nat} {r : Rec} {fs : List Value} {v : Value} (hc : OK X cc own ht) (hG : G.2 a = some (kd, r)) (he : (gE (xg X) kd a r)[ie]? = some (o, .inr (ci, fs))) (hcl : (gcl (xg X))[ci]? = some (C, T, N)) (hin : ∀ w ∈ u_ws C T N, w ∈ lw_all) (j : Nat) (hj : j < N) (hlink : Cond.fieldLinkNest own index ref (T j).2.1 (T j).2.2.1 host ∈ lw_tbl) (hsame : ∀ x, (xs X).fieldFound? (T j).1 (T j).2.1 (T j).2.2.1 = some x → (xs X).fieldFound? ref (T j).2.1 (T j).2.2.1 = some x) (hv : fs[j]? = some v) (d : decode cc pc = .ok (.getfield index, 3)) (h : V X k n G L (v :: st) (pc + 3)) : V X k n G L (.ref o :: st) pc :=
  fun hk hn H locs ls hW hS hl => va_getN hc.1 hc.2.1 hc.2.2.2.2.1 hin hc.2.2.2.1 hc.2.2.2.2.2.1.1 (hW.P hG he) 0 rfl hcl j hj (va_Nw.use rfl (hc.2.2.2.2.2.1.2.1 _ hlink rfl)) hsame hv d (h hk hn H locs ls hW hS hl)
theorem pv_apart1 {s : State} {args : Array Value} {D : va_G} {cl : List vw_C} {tys : List (ClassId × FieldType)} {C : String} {T : u_T} {N ci : Nat} {Ts : List Cond} (hts : ∀ w ∈ Ts, w.before args s = true) (hin : ∀ w ∈ u_ws C T N, w ∈ Ts) (ty : Nat → FieldType) (hty : ∀ k, k < N → parseFieldDescriptor (T k).2.2.1 = some (ty k)) (hK : va_K D cl tys s) (hc : cl[ci]? = some (C, T, N)) (j : Nat) (hj : j < N) (hnm : ∀ b, b < N → b ≠ j → (T b).2.1 ≠ (T j).2.1) : ∀ x, x < N → x ≠ j → (D.2 ci) x ≠ (D.2 ci) j := by
  intro x hx hne
  obtain ⟨hS, -⟩ := hK.1 ci _ hc
  obtain ⟨_, _, _, fa, hia, ea⟩ := hS x hx
  obtain ⟨_, _, _, fb, hib, eb⟩ := hS j hj
  rw [← ea, ← eb]
  refine u_apart (u_lays hts hin hx) (u_lays hts hin hj) hia hib ?_
  rw [(State.fieldFound?_type hia (hty x hx)).1, (State.fieldFound?_type hib (hty j hj)).1]
  exact hnm x hx hne
theorem t_set1 {cell : Cell} {N : Nat} {iS : Nat → Nat} {V0 : Nat → Value} (q4 : ∀ k, k < N → cell.slots[iS k]? = some (V0 k)) {j : Nat} (hj : j < N) (hap : ∀ x, x < N → x ≠ j → iS x ≠ iS j) (v : Value) : ∀ k, k < N → (cell.setSlot (iS j) v).slots[iS k]? = some (updV V0 j v k) := by
  intro x hx
  have hlt : iS j < cell.slots.size := (Array.getElem?_eq_some_iff.mp (q4 j hj)).1
  by_cases hxj : x = j
  · subst hxj
    simp [Cell.setSlot, updV, hlt]
  · have h1 := hap x hx hxj
    simp only [Cell.setSlot, updV, hxj, if_false]
    rw [Array.getElem?_setIfInBounds_ne (Ne.symm h1)]
    exact q4 x hx
theorem pv_put0 {C : String} {T : u_T} {N ci kd a ie o : Nat} {r r' : Rec} {fs : List Value} {v : Value} (hc : OK X cc own ht) (hG : G.2 a = some (kd, r)) (he : (gE (xg X) kd a r)[ie]? = some (o, .inr (ci, fs))) (hcl : (gcl (xg X))[ci]? = some (C, T, N)) (hin : ∀ w ∈ u_ws C T N, w ∈ lw_all) (ty0 : Nat → FieldType) (hty : ∀ k, k < N → parseFieldDescriptor (T k).2.2.1 = some (ty0 k)) (j : Nat) (hj : j < N) (hnm : ∀ b, b < N → b ≠ j → (T b).2.1 ≠ (T j).2.1) (hfin : (T j).2.2.2 = false) (hn : narrow (ty0 j) v = v) (hfit : fits (ty0 j) v = true) (hl : j < fs.length) (hs : gE (xg X) kd a r' = (gE (xg X) kd a r).set ie (o, .inr (ci, fs.set j v)))
    (row : ∀ (H : Heap) (locs : List Loc) (ls : Array Slot) (f : Field) (cell : Cell) (cf : ClassId) (kf : Class) (fi : Nat), (xs X).fieldFound? (T j).1 (T j).2.1 (T j).2.2.1 = some (cf, kf, fi, f) → f.isStatic = false → k2_Sd (xs X) f cell.cls v → H[o]? = some cell → cell.vm = .none → f.slot < cell.slots.size → (∀ H' : Heap, H'[o]? = some (cell.setSlot f.slot v) → H'.size = H.size → (∀ q, q ≠ o → H'[q]? = H[q]?) → W (xp X) (xl X) (xe X) (xR X) (xs X) (xm X) (xa X) (xb X) (xt X) (xc X) H' (locs ++ [⟨o, f.slot⟩]) k n (xQ X) (F0 (xm X) (pc + 3) ls st)) → W (xp X) (xl X) (xe X) (xR X) (xs X) (xm X) (xa X) (xb X) (xt X) (xc X) H locs k n (xQ X) (F0 (xm X) pc ls (v :: .ref o :: st)))
    (h : V X k n (wp G a kd r') L st (pc + 3)) : V X k n G L (v :: .ref o :: st) pc := by
  intro hk hn' H locs ls hW hS hl'
  have hts := hc.2.2.2.2.1
  have hK := hc.2.2.2.2.2.1.1
  have hap := pv_apart1 hts hin ty0 hty hK hcl j hj hnm
  obtain ⟨r0, h1, cell, q1, q2, q3, q4⟩ := hW.at hG he
  have hr : r0 = (C, T, N) := Option.some.inj (h1.symm.trans hcl)
  subst hr
  obtain ⟨hSl, hfc, kC, hkC, hkind⟩ := hK.1 ci _ hcl
  obtain ⟨cf, kf, fi, f, hi, hsl⟩ := hSl j hj
  have hlay := hts _ (hin _ (u_in_lay hj))
  unfold u_lay at hlay
  rw [if_neg (by rw [hfin]; decide)] at hlay
  have hst := (u_facts hfc hkC (u_lays hts hin hj) hi).1
  have h6 := u_store hfc hkC hkind hlay hi (hty j hj) hn hfit
  refine row H locs ls f cell cf kf fi hi hst (by rw [q2]; exact h6) q1 q3 (by rw [hsl]; exact k2_hasslot (q4 j hj)) (fun H' e1 e2 e3 => ?_)
  rw [hsl] at e1 ⊢
  refine h hk hn' H' _ ls (hW.set hG he hs e2 e3 ⟨_, hcl, t_OB.to (V := updV (vp_V fs) j v) ⟨_, e1, q2, q3, t_set1 q4 hj hap v⟩ (fun j' _ => vp_updV_set hl v j')⟩) (fun q hq => ?_) hl'
  rcases List.mem_append.mp hq with h9 | h9
  · exact hS q h9
  · cases List.mem_singleton.mp h9
    exact hW.lo hG he
theorem pv_put {ref C : String} {T : u_T} {N ci index kd a ie o : Nat} {r r' : Rec} {fs : List Value} {v : Value} (hc : OK X cc own ht) (hG : G.2 a = some (kd, r)) (he : (gE (xg X) kd a r)[ie]? = some (o, .inr (ci, fs))) (hcl : (gcl (xg X))[ci]? = some (C, T, N)) (hin : ∀ w ∈ u_ws C T N, w ∈ lw_all) (ty0 : Nat → FieldType) (hty : ∀ k, k < N → parseFieldDescriptor (T k).2.2.1 = some (ty0 k)) (j : Nat) (hj : j < N) (hnm : ∀ b, b < N → b ≠ j → (T b).2.1 ≠ (T j).2.1) (hlink : Cond.fieldLink own index ref (T j).2.1 (T j).2.2.1 ∈ lw_all) (hsame : ∀ x, (xs X).fieldFound? (T j).1 (T j).2.1 (T j).2.2.1 = some x → (xs X).fieldFound? ref (T j).2.1 (T j).2.2.1 = some x) (hfin : (T j).2.2.2 = false) (hn : narrow (ty0 j) v = v) (hfit : fits (ty0 j) v = true) (hl : j < fs.length) (hs : gE (xg X) kd a r' = (gE (xg X) kd a r).set ie (o, .inr (ci, fs.set j v))) (d : decode cc pc = .ok (.putfield index, 3)) (h : V X k n (wp G a kd r') L st (pc + 3)) : V X k n G L (v :: .ref o :: st) pc :=
  pv_put0 hc hG he hcl hin ty0 hty j hj hnm hfin hn hfit hl hs (fun H locs ls f cell cf kf fi hi hst h6 q1 q3 hlt kk => W.putK hc.1 hc.2.1 (f := f) ⟨hc.2.2.2.1, hc.2.2.2.2.1 _ hlink, ⟨_, _, _, hsame _ hi⟩, hst⟩ h6 q1 q3 hlt rfl rfl d kk) h
theorem pv_putN {ref C host : String} {T : u_T} {N ci index kd a ie o : Nat} {r r' : Rec} {fs : List Value} {v : Value} (hc : OK X cc own ht) (hG : G.2 a = some (kd, r)) (he : (gE (xg X) kd a r)[ie]? = some (o, .inr (ci, fs))) (hcl : (gcl (xg X))[ci]? = some (C, T, N)) (hin : ∀ w ∈ u_ws C T N, w ∈ lw_all) (ty0 : Nat → FieldType) (hty : ∀ k, k < N → parseFieldDescriptor (T k).2.2.1 = some (ty0 k)) (j : Nat) (hj : j < N) (hnm : ∀ b, b < N → b ≠ j → (T b).2.1 ≠ (T j).2.1) (hlink : Cond.fieldLinkNest own index ref (T j).2.1 (T j).2.2.1 host ∈ lw_tbl) (hsame : ∀ x, (xs X).fieldFound? (T j).1 (T j).2.1 (T j).2.2.1 = some x → (xs X).fieldFound? ref (T j).2.1 (T j).2.2.1 = some x) (hfin : (T j).2.2.2 = false) (hn : narrow (ty0 j) v = v) (hfit : fits (ty0 j) v = true) (hl : j < fs.length) (hs : gE (xg X) kd a r' = (gE (xg X) kd a r).set ie (o, .inr (ci, fs.set j v))) (d : decode cc pc = .ok (.putfield index, 3)) (h : V X k n (wp G a kd r') L st (pc + 3)) : V X k n G L (v :: .ref o :: st) pc :=
  pv_put0 hc hG he hcl hin ty0 hty j hj hnm hfin hn hfit hl hs (fun H locs ls f cell cf kf fi hi hst h6 q1 q3 hlt kk => va_WputK hc.1 hc.2.1 (f := f) hc.2.2.2.1 (va_Nw.use rfl (hc.2.2.2.2.2.1.2.1 _ hlink rfl)) (hsame _ hi) hst h6 q1 q3 hlt rfl rfl d kk) h
theorem pv_iald {kd a off i0 N : Nat} {r : Rec} {cA : ClassId} {f : Nat → Int32} {i : Int32} {j : Nat} (hc : OK X cc own ht) (hG : G.2 a = some (kd, r)) (he : (gE (xg X) kd a r)[off]? = some (i0, .inl (cA, N, .inl f))) (t0 : Nat) (hty : (gty (xg X))[t0]? = some (cA, .int)) (hj : vp_in i N ∧ i.toNatClampNeg = j) (d : decode cc pc = .ok (.iaload, 1)) (h : V X k n G L (.int (f j) :: st) (pc + 1)) : V X k n G L (.int i :: .ref i0 :: st) pc := by
  intro hk hn H locs ls hW hS hl
  refine va_iald hc.1 hc.2.1 hc.2.2.2.2.2.1.1 (hW.P hG he) 0 t0 rfl hty hj.1 d ?_
  rw [hj.2]
  exact h hk hn H locs ls hW hS hl
theorem pv_zald {kd a off i0 N : Nat} {r : Rec} {cA : ClassId} {f : Nat → Int32} {i : Int32} {j : Nat} (hc : OK X cc own ht) (hG : G.2 a = some (kd, r)) (he : (gE (xg X) kd a r)[off]? = some (i0, .inl (cA, N, .inl f))) (t0 : Nat) (hty : (gty (xg X))[t0]? = some (cA, .boolean)) (hj : vp_in i N ∧ i.toNatClampNeg = j) (d : decode cc pc = .ok (.baload, 1)) (h : V X k n G L (.int (f j) :: st) (pc + 1)) : V X k n G L (.int i :: .ref i0 :: st) pc := by
  intro hk hn H locs ls hW hS hl
  refine va_zald hc.1 hc.2.1 hc.2.2.2.2.2.1.1 (hW.P hG he) 0 t0 rfl hty hj.1 d ?_
  rw [hj.2]
  exact h hk hn H locs ls hW hS hl
theorem pv_bald {kd a off i0 N : Nat} {r : Rec} {cA : ClassId} {f : Nat → Int32} {i : Int32} {j : Nat} (hc : OK X cc own ht) (hG : G.2 a = some (kd, r)) (he : (gE (xg X) kd a r)[off]? = some (i0, .inl (cA, N, .inl f))) (t0 : Nat) (hty : (gty (xg X))[t0]? = some (cA, .byte)) (hj : vp_in i N ∧ i.toNatClampNeg = j) (d : decode cc pc = .ok (.baload, 1)) (h : V X k n G L (.int (f j) :: st) (pc + 1)) : V X k n G L (.int i :: .ref i0 :: st) pc := by
  intro hk hn H locs ls hW hS hl
  refine va_bald hc.1 hc.2.1 hc.2.2.2.2.2.1.1 (hW.P hG he) 0 t0 rfl hty hj.1 d ?_
  rw [hj.2]
  exact h hk hn H locs ls hW hS hl
theorem pv_lald {kd a off i0 N : Nat} {r : Rec} {cA : ClassId} {f : Nat → Int64} {i : Int32} {j : Nat} (hc : OK X cc own ht) (hG : G.2 a = some (kd, r)) (he : (gE (xg X) kd a r)[off]? = some (i0, .inl (cA, N, .inr (.inl f)))) (t0 : Nat) (hty : (gty (xg X))[t0]? = some (cA, .long)) (hj : vp_in i N ∧ i.toNatClampNeg = j) (d : decode cc pc = .ok (.laload, 1)) (h : V X k n G L (.long (f j) :: st) (pc + 1)) : V X k n G L (.int i :: .ref i0 :: st) pc := by
  intro hk hn H locs ls hW hS hl
  refine va_lald hc.1 hc.2.1 hc.2.2.2.2.2.1.1 (hW.P hG he) 0 t0 rfl hty hj.1 d ?_
  rw [hj.2]
  exact h hk hn H locs ls hW hS hl
theorem pv_iast {kd a off i0 N : Nat} {r r' : Rec} {cA : ClassId} {f : Nat → Int32} {i x : Int32} {j : Nat} (hc : OK X cc own ht) (hG : G.2 a = some (kd, r)) (he : (gE (xg X) kd a r)[off]? = some (i0, .inl (cA, N, .inl f))) (t0 : Nat) (hty : (gty (xg X))[t0]? = some (cA, .int)) (hj : vp_in i N ∧ i.toNatClampNeg = j) (hs : gE (xg X) kd a r' = (gE (xg X) kd a r).set off (i0, .inl (cA, N, .inl (va_up f j x)))) (d : decode cc pc = .ok (.iastore, 1)) (h : V X k n (wp G a kd r') L st (pc + 1)) : V X k n G L (.int x :: .int i :: .ref i0 :: st) pc := by
  intro hk hn H locs ls hW hS hl
  obtain ⟨hin, rfl⟩ := hj
  refine W.iast hc.1 hc.2.1 (hW.at hG he) ((hc.2.2.2.2.2.1.1.2 t0 _ hty).1 N (fun j => .int (f j))) (fun q => by cases q) (by show ¬ (i < 0 ∨ (arrV _ _ _).slots.size ≤ _); rw [arrV_size]; exact hin) rfl rfl d fun H1 e z oq => ?_
  refine h hk hn H1 _ ls (hW.set hG he hs z oq ?_) (fun q hq => ?_) hl
  · show H1[i0]? = some (vp_cell _ _)
    rw [e]
    rw [vp_cell_i, vp_cell_i, arrV_store]
    congr 2
    funext q
    by_cases hq : q = i.toNatClampNeg
    · subst hq
      simp [updV, va_up]
    · simp [updV, va_up, hq]
  · rcases List.mem_append.mp hq with h9 | h9
    · exact hS q h9
    · cases List.mem_singleton.mp h9
      exact hW.lo hG he
theorem pv_last {kd a off i0 N : Nat} {r r' : Rec} {cA : ClassId} {f : Nat → Int64} {i : Int32} {x : Int64} {j : Nat} (hc : OK X cc own ht) (hG : G.2 a = some (kd, r)) (he : (gE (xg X) kd a r)[off]? = some (i0, .inl (cA, N, .inr (.inl f)))) (t0 : Nat) (hty : (gty (xg X))[t0]? = some (cA, .long)) (hj : vp_in i N ∧ i.toNatClampNeg = j) (hs : gE (xg X) kd a r' = (gE (xg X) kd a r).set off (i0, .inl (cA, N, .inr (.inl (va_up f j x))))) (d : decode cc pc = .ok (.lastore, 1)) (h : V X k n (wp G a kd r') L st (pc + 1)) : V X k n G L (.long x :: .int i :: .ref i0 :: st) pc := by
  intro hk hn H locs ls hW hS hl
  obtain ⟨hin, rfl⟩ := hj
  refine W.last hc.1 hc.2.1 (hW.at hG he) ((hc.2.2.2.2.2.1.1.2 t0 _ hty).1 N (fun j => .long (f j))) (fun q => by cases q) (by show ¬ (i < 0 ∨ (arrV _ _ _).slots.size ≤ _); rw [arrV_size]; exact hin) rfl rfl d fun H1 e z oq => ?_
  refine h hk hn H1 _ ls (hW.set hG he hs z oq ?_) (fun q hq => ?_) hl
  · show H1[i0]? = some (vp_cell _ _)
    rw [e]
    rw [vp_cell_l, vp_cell_l, arrV_store]
    congr 2
    funext q
    by_cases hq : q = i.toNatClampNeg
    · subst hq
      simp [updV, va_up]
    · simp [updV, va_up, hq]
  · rcases List.mem_append.mp hq with h9 | h9
    · exact hS q h9
    · cases List.mem_singleton.mp h9
      exact hW.lo hG he
theorem pv_zast {kd a off i0 N : Nat} {r r' : Rec} {cA : ClassId} {f : Nat → Int32} {i x : Int32} {j : Nat} (hc : OK X cc own ht) (hG : G.2 a = some (kd, r)) (he : (gE (xg X) kd a r)[off]? = some (i0, .inl (cA, N, .inl f))) (t0 : Nat) (hty : (gty (xg X))[t0]? = some (cA, .boolean)) (hx : x = 0 ∨ x = 1) (hj : vp_in i N ∧ i.toNatClampNeg = j) (hs : gE (xg X) kd a r' = (gE (xg X) kd a r).set off (i0, .inl (cA, N, .inl (va_up f j x)))) (d : decode cc pc = .ok (.bastore, 1)) (h : V X k n (wp G a kd r') L st (pc + 1)) : V X k n G L (.int x :: .int i :: .ref i0 :: st) pc := by
  intro hk hn H locs ls hW hS hl
  obtain ⟨hin, rfl⟩ := hj
  refine W.zast hc.1 hc.2.1 (hW.at hG he) ((hc.2.2.2.2.2.1.1.2 t0 _ hty).1 N (fun j => .int (f j))) (fun q => by cases q) (by show ¬ (i < 0 ∨ (arrV _ _ _).slots.size ≤ _); rw [arrV_size]; exact hin) rfl rfl d fun H1 e z oq => ?_
  refine h hk hn H1 _ ls (hW.set hG he hs z oq ?_) (fun q hq => ?_) hl
  · show H1[i0]? = some (vp_cell _ _)
    rw [e, nar_z hx]
    rw [vp_cell_i, vp_cell_i, arrV_store]
    congr 2
    funext q
    by_cases hq : q = i.toNatClampNeg
    · subst hq
      simp [updV, va_up]
    · simp [updV, va_up, hq]
  · rcases List.mem_append.mp hq with h9 | h9
    · exact hS q h9
    · cases List.mem_singleton.mp h9
      exact hW.lo hG he
theorem pv_bast {kd a off i0 N : Nat} {r r' : Rec} {cA : ClassId} {f : Nat → Int32} {i x : Int32} {j : Nat} (hc : OK X cc own ht) (hG : G.2 a = some (kd, r)) (he : (gE (xg X) kd a r)[off]? = some (i0, .inl (cA, N, .inl f))) (t0 : Nat) (hty : (gty (xg X))[t0]? = some (cA, .byte)) (hj : vp_in i N ∧ i.toNatClampNeg = j) (hs : gE (xg X) kd a r' = (gE (xg X) kd a r).set off (i0, .inl (cA, N, .inl (va_up f j (vp_nar .byte x))))) (d : decode cc pc = .ok (.bastore, 1)) (h : V X k n (wp G a kd r') L st (pc + 1)) : V X k n G L (.int x :: .int i :: .ref i0 :: st) pc := by
  intro hk hn H locs ls hW hS hl
  obtain ⟨hin, rfl⟩ := hj
  refine W.bast hc.1 hc.2.1 (hW.at hG he) ((hc.2.2.2.2.2.1.1.2 t0 _ hty).1 N (fun j => .int (f j))) (fun q => by cases q) (by show ¬ (i < 0 ∨ (arrV _ _ _).slots.size ≤ _); rw [arrV_size]; exact hin) rfl rfl d fun H1 e z oq => ?_
  refine h hk hn H1 _ ls (hW.set hG he hs z oq ?_) (fun q hq => ?_) hl
  · show H1[i0]? = some (vp_cell _ _)
    rw [e]
    rw [vp_cell_i, vp_cell_i, arrV_store]
    congr 2
    funext q
    by_cases hq : q = i.toNatClampNeg
    · subst hq
      simp [updV, va_up, vp_nar, narrow]
    · simp [updV, va_up, hq]
  · rcases List.mem_append.mp hq with h9 | h9
    · exact hS q h9
    · cases List.mem_singleton.mp h9
      exact hW.lo hG he
theorem pv_alen {kd a off i0 N t0 : Nat} {r : Rec} {ty : FieldType} {cA : ClassId} {z : (Nat → Int32) ⊕ (Nat → Int64) ⊕ (Nat → UInt32) ⊕ (Nat → UInt64) ⊕ (Nat → Option Nat)} (hc : OK X cc own ht) (hG : G.2 a = some (kd, r)) (he : (gE (xg X) kd a r)[off]? = some (i0, .inl (cA, N, z))) (hty : (gty (xg X))[t0]? = some (cA, ty)) (d : decode cc pc = .ok (.arraylength, 1)) (h : V X k n G L (.int (nI N) :: st) (pc + 1)) : V X k n G L (.ref i0 :: st) pc := by
  intro hk hn H locs ls hW hS hl
  exact va_alen (v := nI N) hc.1 hc.2.1 hc.2.2.2.2.2.1.1 (hW.P hG he) 0 t0 rfl hty rfl d (h hk hn H locs ls hW hS hl)
/-- ends -/
theorem pv_iret {v : Int32} {r : Option Value} {G1 : Wd} (hc : OK X cc own ht) (hr : (xt X).sig.returnType = some .int) (hQ : xQ X = MQ (xb X) (Qf (xg X) r G1) (xa X) (xs X) k n (fun q => gb (xg X) ≤ q)) (e1 : r = some (.int v)) (e2 : G1 = G) (d : decode cc pc = .ok (.ireturn, 1)) : V X k n G L [.int v] pc := by
  intro hk hn H locs ls hW hS hl
  subst e1; subst e2
  rw [hQ]
  exact W.iret hc.1 hc.2.1 hr (fun t ht hW1 => ⟨rfl, by rw [ht]; exact hW⟩) hS d hc.2.2.2.2.2.2.1
theorem pv_zret {v : Int32} {r : Option Value} {G1 : Wd} (hc : OK X cc own ht) (hr : (xt X).sig.returnType = some .boolean) (hQ : xQ X = MQ (xb X) (Qf (xg X) r G1) (xa X) (xs X) k n (fun q => gb (xg X) ≤ q)) (hz : v = 0 ∨ v = 1) (e1 : r = some (.int v)) (e2 : G1 = G) (d : decode cc pc = .ok (.ireturn, 1)) : V X k n G L [.int v] pc := by
  intro hk hn H locs ls hW hS hl
  subst e1; subst e2
  rw [hQ]
  exact W.zret hc.1 hc.2.1 hr (nar_z hz) (fun t ht hW1 => ⟨rfl, by rw [ht]; exact hW⟩) hS d hc.2.2.2.2.2.2.1
theorem pv_lret {v : Int64} {r : Option Value} {G1 : Wd} (hc : OK X cc own ht) (hr : (xt X).sig.returnType = some .long) (hQ : xQ X = MQ (xb X) (Qf (xg X) r G1) (xa X) (xs X) k n (fun q => gb (xg X) ≤ q)) (e1 : r = some (.long v)) (e2 : G1 = G) (d : decode cc pc = .ok (.lreturn, 1)) : V X k n G L [.long v] pc := by
  intro hk hn H locs ls hW hS hl
  subst e1; subst e2
  rw [hQ]
  exact W.lret hc.1 hc.2.1 hr (fun t ht hW1 => ⟨rfl, by rw [ht]; exact hW⟩) hS d hc.2.2.2.2.2.2.1
theorem pv_vret {r : Option Value} {G1 : Wd} (hc : OK X cc own ht) (hr : (xt X).sig.returnType = none) (hQ : xQ X = MQ (xb X) (Qf (xg X) r G1) (xa X) (xs X) k n (fun q => gb (xg X) ≤ q)) (e1 : r = none) (e2 : G1 = G) (d : decode cc pc = .ok (.return_, 1)) : V X k n G L [] pc := by
  intro hk hn H locs ls hW hS hl
  subst e1; subst e2
  rw [hQ]
  exact W.vret hc.1 hc.2.1 hr (fun t ht hW1 => ⟨rfl, by rw [ht]; exact hW⟩) hS d hc.2.2.2.2.2.2.1
/-- behind a call -/
theorem pv_back {T0 : List Value} {g0 : Gh} {mc ms : Nat} {r : Option Value} {G1 : Wd} (hg : xg X = g0) (hM : ∀ (H : Heap) (locs : List Loc) (ls : Array Slot), GW g0 G H → lv_has ls (xn X) L → k + mc ≤ (xR X).cells → n + ms ≤ (xR X).slots → va_Run (xp X) (xl X) (xe X) (xR X) (xs X) (xm X) (xa X) (xb X) (xt X) (xc X) H locs k n mc ms (F0 (xm X) pc ls T0) st (Qf g0 r G1 (xa X)) (fun q => gb g0 ≤ q)) (hcap : k + mc ≤ (xR X).cells ∧ n + ms ≤ (xR X).slots) (h : V X (k + mc) (n + ms) G1 L (r.toList ++ st) (pc + 3)) : V X k n G L T0 pc := by
  subst hg
  intro hk hn H locs ls hW hS hl T hT S
  obtain ⟨v, st₀, t, T', L', h0, X', hL, e1, e2, ⟨hv, hb⟩, go⟩ := hM H locs ls hW hl hcap.1 hcap.2 T hT S
  cases hv
  obtain ⟨t2, a1, b1⟩ := h hcap.1 hcap.2 T'.heap (locs ++ L') ls (by rw [e1]; exact hb) (fun q hq => by
      rcases List.mem_append.mp hq with h | h
      · exact hS q h
      · exact hL q h) hl T' rfl X'
  exact ⟨t2, go t2 a1, b1⟩
theorem pv_callS {y : MethodName} {bytes : ByteArray} {maxL hy index nA mc ms : Nat} {ret : Option FieldType} {As T0 : List Value} {r : Option Value} {G1 : Wd} (hc : OK X cc own ht) (hM : MTa (xl X) (xg X) y bytes maxL ret hy mc ms G As r G1) (hw : GoodIn lw_all (va_wsS own index y (ws_ y bytes maxL ret))) (hd : y.cls ≠ "java/lang/invoke/MethodHandle" ∧ y.cls ≠ "java/lang/invoke/VarHandle" ∧ (parseMethodDescriptor y.desc).map (fun d => d.parameters.length) = some nA) (hh : hy < ht ∧ maxL ≤ 45) (hn : As.length = nA) (hs : T0 = As.reverse ++ st) (hst : (st.map fun v => v.category).sum ≤ 8) (d : decode cc pc = .ok (.invokestatic index, 3)) (hcap : k + mc ≤ (xR X).cells ∧ n + ms ≤ (xR X).slots) (h : V X (k + mc) (n + ms) G1 L (r.toList ++ st) (pc + 3)) : V X k n G L T0 pc := by
  refine pv_back rfl (fun H locs ls hW hl h1 h2 => ?_) hcap h
  have cw := va_cwS (R := xR X) nA hc.2.2.2.2.1 hw rfl (rm := { frames := hy, cells := mc, slots := ms, locals := 64 * hy }) rfl rfl hd ⟨by rw [hc.2.2.2.2.2.2.2.1]; exact hh.1, by rw [hc.2.2.2.2.2.2.2.2]; show 8 + (maxL + 11) + 64 * hy ≤ 64 * ht; omega⟩
  exact va_runS (As := As) (rest := st) ⟨hc.1, hc.2.1, hc.2.2.1, hc.2.2.2.1, hc.2.2.2.2.1⟩ hM cw ⟨blindPc _ _ _, fun U hU hWm => ⟨rfl, ST.warm hWm hc.2.2.2.2.2.1, by rw [hU]; exact hW⟩⟩ rfl hn hl.1 hs (lv_room hst) d ⟨h1, h2⟩
theorem pv_callV {y : MethodName} {bytes : ByteArray} {maxL hy index nA mc ms kd ci a ie b : Nat} {ret : Option FieldType} {As T0 : List Value} {r : Option Value} {G1 : Wd} {rb : Rec} {fs : List Value} {C : String} {TT : u_T} {NN : Nat} (hc : OK X cc own ht) (hM : MTa (xl X) (xg X) y bytes maxL ret hy mc ms G (.ref b :: As) r G1) (hG : G.2 a = some (kd, rb)) (he : (gE (xg X) kd a rb)[ie]? = some (b, .inr (ci, fs))) (hcl : (gcl (xg X))[ci]? = some (C, TT, NN)) (hw : GoodIn lw_all (wsV own index C y (ws_ y bytes maxL ret))) (hd : y.cls = C ∧ y.cls ≠ "java/lang/invoke/MethodHandle" ∧ y.cls ≠ "java/lang/invoke/VarHandle" ∧ (parseMethodDescriptor y.desc).map (fun d => d.parameters.length) = some nA) (hh : hy < ht ∧ maxL ≤ 45) (hn : As.length = nA) (hs : T0 = As.reverse ++ .ref b :: st) (hst : (st.map fun v => v.category).sum ≤ 8) (d : decode cc pc = .ok (.invokevirtual index, 3)) (hcap : k + mc ≤ (xR X).cells ∧ n + ms ≤ (xR X).slots) (h : V X (k + mc) (n + ms) G1 L (r.toList ++ st) (pc + 3)) : V X k n G L T0 pc := by
  refine pv_back rfl (fun H locs ls hW hl h1 h2 => ?_) hcap h
  have cw := cwV (R := xR X) nA hc.2.2.2.2.1 hw rfl (rm := { frames := hy, cells := mc, slots := ms, locals := 64 * hy }) rfl rfl hd ⟨by rw [hc.2.2.2.2.2.2.2.1]; exact hh.1, by rw [hc.2.2.2.2.2.2.2.2]; show 8 + (maxL + 11) + 64 * hy ≤ 64 * ht; omega⟩
  exact va_runV (As := As) (rest := st) ⟨hc.1, hc.2.1, hc.2.2.1, hc.2.2.2.1, hc.2.2.2.2.1⟩ hM cw ⟨blindPc _ _ _, va_recv hc.2.2.2.2.2.1.1 (hW.P hG he) (q0 := 0) hcl rfl, fun U hU hWm => ⟨rfl, ST.warm hWm hc.2.2.2.2.2.1, by rw [hU]; exact hW⟩⟩ rfl hn hl.1 hs (lv_room hst) d ⟨h1, h2⟩
end PH
def LP1 {A1 R : Type} (body : (A1 → Option R) → A1 → Option R) : Nat → A1 → Option R
  | 0, _ => none
  | n + 1, a1 => body (LP1 body n) a1
theorem LP1_s {A1 R : Type} (body : (A1 → Option R) → A1 → Option R) (n : Nat) (a1 : A1) : LP1 body (n + 1) a1 = body (LP1 body n) a1 := rfl
theorem LP1_el {A1 R : Type} {body : (A1 → Option R) → A1 → Option R} {r : R} {P : A1 → Prop} (hs : ∀ rec : A1 → Option R, (∀ (a1 : A1), rec a1 = some r → P a1) → ∀ (a1 : A1), body rec a1 = some r → P a1) : ∀ (n : Nat) (a1 : A1), LP1 body n a1 = some r → P a1 := by
  intro n
  induction n with
  | zero => intro a1 h; cases h
  | succ n ih => intro a1 h; exact hs (LP1 body n) (fun a1 h => ih a1 h) a1 h
theorem LP1_go {A1 R : Type} {body : (A1 → Option R) → A1 → Option R} (f1 : Nat → A1) (e : Nat) : ∀ (n j : Nat), (∀ i, j ≤ i → i < j + e → ∀ rec : A1 → Option R, body rec (f1 i) = rec (f1 (i + 1))) → LP1 body (n + e) (f1 j) = LP1 body n (f1 (j + e)) := by
  induction e with
  | zero => intro n j _; rfl
  | succ e ih =>
    intro n j hs
    have h1 : LP1 body (n + (e + 1)) (f1 j) = body (LP1 body (n + e)) (f1 j) := rfl
    rw [h1, hs j (Nat.le_refl j) (by omega), ih n (j + 1) (fun i h1 h2 => hs i (by omega) (by omega)), show j + 1 + e = j + (e + 1) by omega]
def JN1 {A1 R : Type} (t : A1 → Option R) (b : (A1 → Option R) → Option R) : Option R := b t
theorem JN1_el {A1 R : Type} {t : A1 → Option R} {b : (A1 → Option R) → Option R} {r : R} {P : A1 → Prop} (h : JN1 t b = some r) (hp : ∀ (a1 : A1), t a1 = some r → P a1) : ∃ t' : A1 → Option R, (∀ (a1 : A1), t' a1 = some r → P a1) ∧ b t' = some r := ⟨t, hp, h⟩
def LP2 {A1 A2 R : Type} (body : (A1 → A2 → Option R) → A1 → A2 → Option R) : Nat → A1 → A2 → Option R
  | 0, _, _ => none
  | n + 1, a1, a2 => body (LP2 body n) a1 a2
theorem LP2_s {A1 A2 R : Type} (body : (A1 → A2 → Option R) → A1 → A2 → Option R) (n : Nat) (a1 : A1) (a2 : A2) : LP2 body (n + 1) a1 a2 = body (LP2 body n) a1 a2 := rfl
theorem LP2_el {A1 A2 R : Type} {body : (A1 → A2 → Option R) → A1 → A2 → Option R} {r : R} {P : A1 → A2 → Prop} (hs : ∀ rec : A1 → A2 → Option R, (∀ (a1 : A1) (a2 : A2), rec a1 a2 = some r → P a1 a2) → ∀ (a1 : A1) (a2 : A2), body rec a1 a2 = some r → P a1 a2) : ∀ (n : Nat) (a1 : A1) (a2 : A2), LP2 body n a1 a2 = some r → P a1 a2 := by
  intro n
  induction n with
  | zero => intro a1 a2 h; cases h
  | succ n ih => intro a1 a2 h; exact hs (LP2 body n) (fun a1 a2 h => ih a1 a2 h) a1 a2 h
theorem LP2_go {A1 A2 R : Type} {body : (A1 → A2 → Option R) → A1 → A2 → Option R} (f1 : Nat → A1) (f2 : Nat → A2) (e : Nat) : ∀ (n j : Nat), (∀ i, j ≤ i → i < j + e → ∀ rec : A1 → A2 → Option R, body rec (f1 i) (f2 i) = rec (f1 (i + 1)) (f2 (i + 1))) → LP2 body (n + e) (f1 j) (f2 j) = LP2 body n (f1 (j + e)) (f2 (j + e)) := by
  induction e with
  | zero => intro n j _; rfl
  | succ e ih =>
    intro n j hs
    have h1 : LP2 body (n + (e + 1)) (f1 j) (f2 j) = body (LP2 body (n + e)) (f1 j) (f2 j) := rfl
    rw [h1, hs j (Nat.le_refl j) (by omega), ih n (j + 1) (fun i h1 h2 => hs i (by omega) (by omega)), show j + 1 + e = j + (e + 1) by omega]
def JN2 {A1 A2 R : Type} (t : A1 → A2 → Option R) (b : (A1 → A2 → Option R) → Option R) : Option R := b t
theorem JN2_el {A1 A2 R : Type} {t : A1 → A2 → Option R} {b : (A1 → A2 → Option R) → Option R} {r : R} {P : A1 → A2 → Prop} (h : JN2 t b = some r) (hp : ∀ (a1 : A1) (a2 : A2), t a1 a2 = some r → P a1 a2) : ∃ t' : A1 → A2 → Option R, (∀ (a1 : A1) (a2 : A2), t' a1 a2 = some r → P a1 a2) ∧ b t' = some r := ⟨t, hp, h⟩
def LP3 {A1 A2 A3 R : Type} (body : (A1 → A2 → A3 → Option R) → A1 → A2 → A3 → Option R) : Nat → A1 → A2 → A3 → Option R
  | 0, _, _, _ => none
  | n + 1, a1, a2, a3 => body (LP3 body n) a1 a2 a3
theorem LP3_s {A1 A2 A3 R : Type} (body : (A1 → A2 → A3 → Option R) → A1 → A2 → A3 → Option R) (n : Nat) (a1 : A1) (a2 : A2) (a3 : A3) : LP3 body (n + 1) a1 a2 a3 = body (LP3 body n) a1 a2 a3 := rfl
theorem LP3_el {A1 A2 A3 R : Type} {body : (A1 → A2 → A3 → Option R) → A1 → A2 → A3 → Option R} {r : R} {P : A1 → A2 → A3 → Prop} (hs : ∀ rec : A1 → A2 → A3 → Option R, (∀ (a1 : A1) (a2 : A2) (a3 : A3), rec a1 a2 a3 = some r → P a1 a2 a3) → ∀ (a1 : A1) (a2 : A2) (a3 : A3), body rec a1 a2 a3 = some r → P a1 a2 a3) : ∀ (n : Nat) (a1 : A1) (a2 : A2) (a3 : A3), LP3 body n a1 a2 a3 = some r → P a1 a2 a3 := by
  intro n
  induction n with
  | zero => intro a1 a2 a3 h; cases h
  | succ n ih => intro a1 a2 a3 h; exact hs (LP3 body n) (fun a1 a2 a3 h => ih a1 a2 a3 h) a1 a2 a3 h
theorem LP3_go {A1 A2 A3 R : Type} {body : (A1 → A2 → A3 → Option R) → A1 → A2 → A3 → Option R} (f1 : Nat → A1) (f2 : Nat → A2) (f3 : Nat → A3) (e : Nat) : ∀ (n j : Nat), (∀ i, j ≤ i → i < j + e → ∀ rec : A1 → A2 → A3 → Option R, body rec (f1 i) (f2 i) (f3 i) = rec (f1 (i + 1)) (f2 (i + 1)) (f3 (i + 1))) → LP3 body (n + e) (f1 j) (f2 j) (f3 j) = LP3 body n (f1 (j + e)) (f2 (j + e)) (f3 (j + e)) := by
  induction e with
  | zero => intro n j _; rfl
  | succ e ih =>
    intro n j hs
    have h1 : LP3 body (n + (e + 1)) (f1 j) (f2 j) (f3 j) = body (LP3 body (n + e)) (f1 j) (f2 j) (f3 j) := rfl
    rw [h1, hs j (Nat.le_refl j) (by omega), ih n (j + 1) (fun i h1 h2 => hs i (by omega) (by omega)), show j + 1 + e = j + (e + 1) by omega]
def JN3 {A1 A2 A3 R : Type} (t : A1 → A2 → A3 → Option R) (b : (A1 → A2 → A3 → Option R) → Option R) : Option R := b t
theorem JN3_el {A1 A2 A3 R : Type} {t : A1 → A2 → A3 → Option R} {b : (A1 → A2 → A3 → Option R) → Option R} {r : R} {P : A1 → A2 → A3 → Prop} (h : JN3 t b = some r) (hp : ∀ (a1 : A1) (a2 : A2) (a3 : A3), t a1 a2 a3 = some r → P a1 a2 a3) : ∃ t' : A1 → A2 → A3 → Option R, (∀ (a1 : A1) (a2 : A2) (a3 : A3), t' a1 a2 a3 = some r → P a1 a2 a3) ∧ b t' = some r := ⟨t, hp, h⟩
def LP4 {A1 A2 A3 A4 R : Type} (body : (A1 → A2 → A3 → A4 → Option R) → A1 → A2 → A3 → A4 → Option R) : Nat → A1 → A2 → A3 → A4 → Option R
  | 0, _, _, _, _ => none
  | n + 1, a1, a2, a3, a4 => body (LP4 body n) a1 a2 a3 a4
theorem LP4_s {A1 A2 A3 A4 R : Type} (body : (A1 → A2 → A3 → A4 → Option R) → A1 → A2 → A3 → A4 → Option R) (n : Nat) (a1 : A1) (a2 : A2) (a3 : A3) (a4 : A4) : LP4 body (n + 1) a1 a2 a3 a4 = body (LP4 body n) a1 a2 a3 a4 := rfl
theorem LP4_el {A1 A2 A3 A4 R : Type} {body : (A1 → A2 → A3 → A4 → Option R) → A1 → A2 → A3 → A4 → Option R} {r : R} {P : A1 → A2 → A3 → A4 → Prop} (hs : ∀ rec : A1 → A2 → A3 → A4 → Option R, (∀ (a1 : A1) (a2 : A2) (a3 : A3) (a4 : A4), rec a1 a2 a3 a4 = some r → P a1 a2 a3 a4) → ∀ (a1 : A1) (a2 : A2) (a3 : A3) (a4 : A4), body rec a1 a2 a3 a4 = some r → P a1 a2 a3 a4) : ∀ (n : Nat) (a1 : A1) (a2 : A2) (a3 : A3) (a4 : A4), LP4 body n a1 a2 a3 a4 = some r → P a1 a2 a3 a4 := by
  intro n
  induction n with
  | zero => intro a1 a2 a3 a4 h; cases h
  | succ n ih => intro a1 a2 a3 a4 h; exact hs (LP4 body n) (fun a1 a2 a3 a4 h => ih a1 a2 a3 a4 h) a1 a2 a3 a4 h
theorem LP4_go {A1 A2 A3 A4 R : Type} {body : (A1 → A2 → A3 → A4 → Option R) → A1 → A2 → A3 → A4 → Option R} (f1 : Nat → A1) (f2 : Nat → A2) (f3 : Nat → A3) (f4 : Nat → A4) (e : Nat) : ∀ (n j : Nat), (∀ i, j ≤ i → i < j + e → ∀ rec : A1 → A2 → A3 → A4 → Option R, body rec (f1 i) (f2 i) (f3 i) (f4 i) = rec (f1 (i + 1)) (f2 (i + 1)) (f3 (i + 1)) (f4 (i + 1))) → LP4 body (n + e) (f1 j) (f2 j) (f3 j) (f4 j) = LP4 body n (f1 (j + e)) (f2 (j + e)) (f3 (j + e)) (f4 (j + e)) := by
  induction e with
  | zero => intro n j _; rfl
  | succ e ih =>
    intro n j hs
    have h1 : LP4 body (n + (e + 1)) (f1 j) (f2 j) (f3 j) (f4 j) = body (LP4 body (n + e)) (f1 j) (f2 j) (f3 j) (f4 j) := rfl
    rw [h1, hs j (Nat.le_refl j) (by omega), ih n (j + 1) (fun i h1 h2 => hs i (by omega) (by omega)), show j + 1 + e = j + (e + 1) by omega]
def JN4 {A1 A2 A3 A4 R : Type} (t : A1 → A2 → A3 → A4 → Option R) (b : (A1 → A2 → A3 → A4 → Option R) → Option R) : Option R := b t
theorem JN4_el {A1 A2 A3 A4 R : Type} {t : A1 → A2 → A3 → A4 → Option R} {b : (A1 → A2 → A3 → A4 → Option R) → Option R} {r : R} {P : A1 → A2 → A3 → A4 → Prop} (h : JN4 t b = some r) (hp : ∀ (a1 : A1) (a2 : A2) (a3 : A3) (a4 : A4), t a1 a2 a3 a4 = some r → P a1 a2 a3 a4) : ∃ t' : A1 → A2 → A3 → A4 → Option R, (∀ (a1 : A1) (a2 : A2) (a3 : A3) (a4 : A4), t' a1 a2 a3 a4 = some r → P a1 a2 a3 a4) ∧ b t' = some r := ⟨t, hp, h⟩
def LP5 {A1 A2 A3 A4 A5 R : Type} (body : (A1 → A2 → A3 → A4 → A5 → Option R) → A1 → A2 → A3 → A4 → A5 → Option R) : Nat → A1 → A2 → A3 → A4 → A5 → Option R
  | 0, _, _, _, _, _ => none
  | n + 1, a1, a2, a3, a4, a5 => body (LP5 body n) a1 a2 a3 a4 a5
theorem LP5_s {A1 A2 A3 A4 A5 R : Type} (body : (A1 → A2 → A3 → A4 → A5 → Option R) → A1 → A2 → A3 → A4 → A5 → Option R) (n : Nat) (a1 : A1) (a2 : A2) (a3 : A3) (a4 : A4) (a5 : A5) : LP5 body (n + 1) a1 a2 a3 a4 a5 = body (LP5 body n) a1 a2 a3 a4 a5 := rfl
theorem LP5_el {A1 A2 A3 A4 A5 R : Type} {body : (A1 → A2 → A3 → A4 → A5 → Option R) → A1 → A2 → A3 → A4 → A5 → Option R} {r : R} {P : A1 → A2 → A3 → A4 → A5 → Prop} (hs : ∀ rec : A1 → A2 → A3 → A4 → A5 → Option R, (∀ (a1 : A1) (a2 : A2) (a3 : A3) (a4 : A4) (a5 : A5), rec a1 a2 a3 a4 a5 = some r → P a1 a2 a3 a4 a5) → ∀ (a1 : A1) (a2 : A2) (a3 : A3) (a4 : A4) (a5 : A5), body rec a1 a2 a3 a4 a5 = some r → P a1 a2 a3 a4 a5) : ∀ (n : Nat) (a1 : A1) (a2 : A2) (a3 : A3) (a4 : A4) (a5 : A5), LP5 body n a1 a2 a3 a4 a5 = some r → P a1 a2 a3 a4 a5 := by
  intro n
  induction n with
  | zero => intro a1 a2 a3 a4 a5 h; cases h
  | succ n ih => intro a1 a2 a3 a4 a5 h; exact hs (LP5 body n) (fun a1 a2 a3 a4 a5 h => ih a1 a2 a3 a4 a5 h) a1 a2 a3 a4 a5 h
theorem LP5_go {A1 A2 A3 A4 A5 R : Type} {body : (A1 → A2 → A3 → A4 → A5 → Option R) → A1 → A2 → A3 → A4 → A5 → Option R} (f1 : Nat → A1) (f2 : Nat → A2) (f3 : Nat → A3) (f4 : Nat → A4) (f5 : Nat → A5) (e : Nat) : ∀ (n j : Nat), (∀ i, j ≤ i → i < j + e → ∀ rec : A1 → A2 → A3 → A4 → A5 → Option R, body rec (f1 i) (f2 i) (f3 i) (f4 i) (f5 i) = rec (f1 (i + 1)) (f2 (i + 1)) (f3 (i + 1)) (f4 (i + 1)) (f5 (i + 1))) → LP5 body (n + e) (f1 j) (f2 j) (f3 j) (f4 j) (f5 j) = LP5 body n (f1 (j + e)) (f2 (j + e)) (f3 (j + e)) (f4 (j + e)) (f5 (j + e)) := by
  induction e with
  | zero => intro n j _; rfl
  | succ e ih =>
    intro n j hs
    have h1 : LP5 body (n + (e + 1)) (f1 j) (f2 j) (f3 j) (f4 j) (f5 j) = body (LP5 body (n + e)) (f1 j) (f2 j) (f3 j) (f4 j) (f5 j) := rfl
    rw [h1, hs j (Nat.le_refl j) (by omega), ih n (j + 1) (fun i h1 h2 => hs i (by omega) (by omega)), show j + 1 + e = j + (e + 1) by omega]
def JN5 {A1 A2 A3 A4 A5 R : Type} (t : A1 → A2 → A3 → A4 → A5 → Option R) (b : (A1 → A2 → A3 → A4 → A5 → Option R) → Option R) : Option R := b t
theorem JN5_el {A1 A2 A3 A4 A5 R : Type} {t : A1 → A2 → A3 → A4 → A5 → Option R} {b : (A1 → A2 → A3 → A4 → A5 → Option R) → Option R} {r : R} {P : A1 → A2 → A3 → A4 → A5 → Prop} (h : JN5 t b = some r) (hp : ∀ (a1 : A1) (a2 : A2) (a3 : A3) (a4 : A4) (a5 : A5), t a1 a2 a3 a4 a5 = some r → P a1 a2 a3 a4 a5) : ∃ t' : A1 → A2 → A3 → A4 → A5 → Option R, (∀ (a1 : A1) (a2 : A2) (a3 : A3) (a4 : A4) (a5 : A5), t' a1 a2 a3 a4 a5 = some r → P a1 a2 a3 a4 a5) ∧ b t' = some r := ⟨t, hp, h⟩
def LP6 {A1 A2 A3 A4 A5 A6 R : Type} (body : (A1 → A2 → A3 → A4 → A5 → A6 → Option R) → A1 → A2 → A3 → A4 → A5 → A6 → Option R) : Nat → A1 → A2 → A3 → A4 → A5 → A6 → Option R
  | 0, _, _, _, _, _, _ => none
  | n + 1, a1, a2, a3, a4, a5, a6 => body (LP6 body n) a1 a2 a3 a4 a5 a6
theorem LP6_s {A1 A2 A3 A4 A5 A6 R : Type} (body : (A1 → A2 → A3 → A4 → A5 → A6 → Option R) → A1 → A2 → A3 → A4 → A5 → A6 → Option R) (n : Nat) (a1 : A1) (a2 : A2) (a3 : A3) (a4 : A4) (a5 : A5) (a6 : A6) : LP6 body (n + 1) a1 a2 a3 a4 a5 a6 = body (LP6 body n) a1 a2 a3 a4 a5 a6 := rfl
theorem LP6_el {A1 A2 A3 A4 A5 A6 R : Type} {body : (A1 → A2 → A3 → A4 → A5 → A6 → Option R) → A1 → A2 → A3 → A4 → A5 → A6 → Option R} {r : R} {P : A1 → A2 → A3 → A4 → A5 → A6 → Prop} (hs : ∀ rec : A1 → A2 → A3 → A4 → A5 → A6 → Option R, (∀ (a1 : A1) (a2 : A2) (a3 : A3) (a4 : A4) (a5 : A5) (a6 : A6), rec a1 a2 a3 a4 a5 a6 = some r → P a1 a2 a3 a4 a5 a6) → ∀ (a1 : A1) (a2 : A2) (a3 : A3) (a4 : A4) (a5 : A5) (a6 : A6), body rec a1 a2 a3 a4 a5 a6 = some r → P a1 a2 a3 a4 a5 a6) : ∀ (n : Nat) (a1 : A1) (a2 : A2) (a3 : A3) (a4 : A4) (a5 : A5) (a6 : A6), LP6 body n a1 a2 a3 a4 a5 a6 = some r → P a1 a2 a3 a4 a5 a6 := by
  intro n
  induction n with
  | zero => intro a1 a2 a3 a4 a5 a6 h; cases h
  | succ n ih => intro a1 a2 a3 a4 a5 a6 h; exact hs (LP6 body n) (fun a1 a2 a3 a4 a5 a6 h => ih a1 a2 a3 a4 a5 a6 h) a1 a2 a3 a4 a5 a6 h
theorem LP6_go {A1 A2 A3 A4 A5 A6 R : Type} {body : (A1 → A2 → A3 → A4 → A5 → A6 → Option R) → A1 → A2 → A3 → A4 → A5 → A6 → Option R} (f1 : Nat → A1) (f2 : Nat → A2) (f3 : Nat → A3) (f4 : Nat → A4) (f5 : Nat → A5) (f6 : Nat → A6) (e : Nat) : ∀ (n j : Nat), (∀ i, j ≤ i → i < j + e → ∀ rec : A1 → A2 → A3 → A4 → A5 → A6 → Option R, body rec (f1 i) (f2 i) (f3 i) (f4 i) (f5 i) (f6 i) = rec (f1 (i + 1)) (f2 (i + 1)) (f3 (i + 1)) (f4 (i + 1)) (f5 (i + 1)) (f6 (i + 1))) → LP6 body (n + e) (f1 j) (f2 j) (f3 j) (f4 j) (f5 j) (f6 j) = LP6 body n (f1 (j + e)) (f2 (j + e)) (f3 (j + e)) (f4 (j + e)) (f5 (j + e)) (f6 (j + e)) := by
  induction e with
  | zero => intro n j _; rfl
  | succ e ih =>
    intro n j hs
    have h1 : LP6 body (n + (e + 1)) (f1 j) (f2 j) (f3 j) (f4 j) (f5 j) (f6 j) = body (LP6 body (n + e)) (f1 j) (f2 j) (f3 j) (f4 j) (f5 j) (f6 j) := rfl
    rw [h1, hs j (Nat.le_refl j) (by omega), ih n (j + 1) (fun i h1 h2 => hs i (by omega) (by omega)), show j + 1 + e = j + (e + 1) by omega]
def JN6 {A1 A2 A3 A4 A5 A6 R : Type} (t : A1 → A2 → A3 → A4 → A5 → A6 → Option R) (b : (A1 → A2 → A3 → A4 → A5 → A6 → Option R) → Option R) : Option R := b t
theorem JN6_el {A1 A2 A3 A4 A5 A6 R : Type} {t : A1 → A2 → A3 → A4 → A5 → A6 → Option R} {b : (A1 → A2 → A3 → A4 → A5 → A6 → Option R) → Option R} {r : R} {P : A1 → A2 → A3 → A4 → A5 → A6 → Prop} (h : JN6 t b = some r) (hp : ∀ (a1 : A1) (a2 : A2) (a3 : A3) (a4 : A4) (a5 : A5) (a6 : A6), t a1 a2 a3 a4 a5 a6 = some r → P a1 a2 a3 a4 a5 a6) : ∃ t' : A1 → A2 → A3 → A4 → A5 → A6 → Option R, (∀ (a1 : A1) (a2 : A2) (a3 : A3) (a4 : A4) (a5 : A5) (a6 : A6), t' a1 a2 a3 a4 a5 a6 = some r → P a1 a2 a3 a4 a5 a6) ∧ b t' = some r := ⟨t, hp, h⟩
def LP7 {A1 A2 A3 A4 A5 A6 A7 R : Type} (body : (A1 → A2 → A3 → A4 → A5 → A6 → A7 → Option R) → A1 → A2 → A3 → A4 → A5 → A6 → A7 → Option R) : Nat → A1 → A2 → A3 → A4 → A5 → A6 → A7 → Option R
  | 0, _, _, _, _, _, _, _ => none
  | n + 1, a1, a2, a3, a4, a5, a6, a7 => body (LP7 body n) a1 a2 a3 a4 a5 a6 a7
theorem LP7_s {A1 A2 A3 A4 A5 A6 A7 R : Type} (body : (A1 → A2 → A3 → A4 → A5 → A6 → A7 → Option R) → A1 → A2 → A3 → A4 → A5 → A6 → A7 → Option R) (n : Nat) (a1 : A1) (a2 : A2) (a3 : A3) (a4 : A4) (a5 : A5) (a6 : A6) (a7 : A7) : LP7 body (n + 1) a1 a2 a3 a4 a5 a6 a7 = body (LP7 body n) a1 a2 a3 a4 a5 a6 a7 := rfl
theorem LP7_el {A1 A2 A3 A4 A5 A6 A7 R : Type} {body : (A1 → A2 → A3 → A4 → A5 → A6 → A7 → Option R) → A1 → A2 → A3 → A4 → A5 → A6 → A7 → Option R} {r : R} {P : A1 → A2 → A3 → A4 → A5 → A6 → A7 → Prop} (hs : ∀ rec : A1 → A2 → A3 → A4 → A5 → A6 → A7 → Option R, (∀ (a1 : A1) (a2 : A2) (a3 : A3) (a4 : A4) (a5 : A5) (a6 : A6) (a7 : A7), rec a1 a2 a3 a4 a5 a6 a7 = some r → P a1 a2 a3 a4 a5 a6 a7) → ∀ (a1 : A1) (a2 : A2) (a3 : A3) (a4 : A4) (a5 : A5) (a6 : A6) (a7 : A7), body rec a1 a2 a3 a4 a5 a6 a7 = some r → P a1 a2 a3 a4 a5 a6 a7) : ∀ (n : Nat) (a1 : A1) (a2 : A2) (a3 : A3) (a4 : A4) (a5 : A5) (a6 : A6) (a7 : A7), LP7 body n a1 a2 a3 a4 a5 a6 a7 = some r → P a1 a2 a3 a4 a5 a6 a7 := by
  intro n
  induction n with
  | zero => intro a1 a2 a3 a4 a5 a6 a7 h; cases h
  | succ n ih => intro a1 a2 a3 a4 a5 a6 a7 h; exact hs (LP7 body n) (fun a1 a2 a3 a4 a5 a6 a7 h => ih a1 a2 a3 a4 a5 a6 a7 h) a1 a2 a3 a4 a5 a6 a7 h
theorem LP7_go {A1 A2 A3 A4 A5 A6 A7 R : Type} {body : (A1 → A2 → A3 → A4 → A5 → A6 → A7 → Option R) → A1 → A2 → A3 → A4 → A5 → A6 → A7 → Option R} (f1 : Nat → A1) (f2 : Nat → A2) (f3 : Nat → A3) (f4 : Nat → A4) (f5 : Nat → A5) (f6 : Nat → A6) (f7 : Nat → A7) (e : Nat) : ∀ (n j : Nat), (∀ i, j ≤ i → i < j + e → ∀ rec : A1 → A2 → A3 → A4 → A5 → A6 → A7 → Option R, body rec (f1 i) (f2 i) (f3 i) (f4 i) (f5 i) (f6 i) (f7 i) = rec (f1 (i + 1)) (f2 (i + 1)) (f3 (i + 1)) (f4 (i + 1)) (f5 (i + 1)) (f6 (i + 1)) (f7 (i + 1))) → LP7 body (n + e) (f1 j) (f2 j) (f3 j) (f4 j) (f5 j) (f6 j) (f7 j) = LP7 body n (f1 (j + e)) (f2 (j + e)) (f3 (j + e)) (f4 (j + e)) (f5 (j + e)) (f6 (j + e)) (f7 (j + e)) := by
  induction e with
  | zero => intro n j _; rfl
  | succ e ih =>
    intro n j hs
    have h1 : LP7 body (n + (e + 1)) (f1 j) (f2 j) (f3 j) (f4 j) (f5 j) (f6 j) (f7 j) = body (LP7 body (n + e)) (f1 j) (f2 j) (f3 j) (f4 j) (f5 j) (f6 j) (f7 j) := rfl
    rw [h1, hs j (Nat.le_refl j) (by omega), ih n (j + 1) (fun i h1 h2 => hs i (by omega) (by omega)), show j + 1 + e = j + (e + 1) by omega]
def JN7 {A1 A2 A3 A4 A5 A6 A7 R : Type} (t : A1 → A2 → A3 → A4 → A5 → A6 → A7 → Option R) (b : (A1 → A2 → A3 → A4 → A5 → A6 → A7 → Option R) → Option R) : Option R := b t
theorem JN7_el {A1 A2 A3 A4 A5 A6 A7 R : Type} {t : A1 → A2 → A3 → A4 → A5 → A6 → A7 → Option R} {b : (A1 → A2 → A3 → A4 → A5 → A6 → A7 → Option R) → Option R} {r : R} {P : A1 → A2 → A3 → A4 → A5 → A6 → A7 → Prop} (h : JN7 t b = some r) (hp : ∀ (a1 : A1) (a2 : A2) (a3 : A3) (a4 : A4) (a5 : A5) (a6 : A6) (a7 : A7), t a1 a2 a3 a4 a5 a6 a7 = some r → P a1 a2 a3 a4 a5 a6 a7) : ∃ t' : A1 → A2 → A3 → A4 → A5 → A6 → A7 → Option R, (∀ (a1 : A1) (a2 : A2) (a3 : A3) (a4 : A4) (a5 : A5) (a6 : A6) (a7 : A7), t' a1 a2 a3 a4 a5 a6 a7 = some r → P a1 a2 a3 a4 a5 a6 a7) ∧ b t' = some r := ⟨t, hp, h⟩
def LP8 {A1 A2 A3 A4 A5 A6 A7 A8 R : Type} (body : (A1 → A2 → A3 → A4 → A5 → A6 → A7 → A8 → Option R) → A1 → A2 → A3 → A4 → A5 → A6 → A7 → A8 → Option R) : Nat → A1 → A2 → A3 → A4 → A5 → A6 → A7 → A8 → Option R
  | 0, _, _, _, _, _, _, _, _ => none
  | n + 1, a1, a2, a3, a4, a5, a6, a7, a8 => body (LP8 body n) a1 a2 a3 a4 a5 a6 a7 a8
theorem LP8_s {A1 A2 A3 A4 A5 A6 A7 A8 R : Type} (body : (A1 → A2 → A3 → A4 → A5 → A6 → A7 → A8 → Option R) → A1 → A2 → A3 → A4 → A5 → A6 → A7 → A8 → Option R) (n : Nat) (a1 : A1) (a2 : A2) (a3 : A3) (a4 : A4) (a5 : A5) (a6 : A6) (a7 : A7) (a8 : A8) : LP8 body (n + 1) a1 a2 a3 a4 a5 a6 a7 a8 = body (LP8 body n) a1 a2 a3 a4 a5 a6 a7 a8 := rfl
theorem LP8_el {A1 A2 A3 A4 A5 A6 A7 A8 R : Type} {body : (A1 → A2 → A3 → A4 → A5 → A6 → A7 → A8 → Option R) → A1 → A2 → A3 → A4 → A5 → A6 → A7 → A8 → Option R} {r : R} {P : A1 → A2 → A3 → A4 → A5 → A6 → A7 → A8 → Prop} (hs : ∀ rec : A1 → A2 → A3 → A4 → A5 → A6 → A7 → A8 → Option R, (∀ (a1 : A1) (a2 : A2) (a3 : A3) (a4 : A4) (a5 : A5) (a6 : A6) (a7 : A7) (a8 : A8), rec a1 a2 a3 a4 a5 a6 a7 a8 = some r → P a1 a2 a3 a4 a5 a6 a7 a8) → ∀ (a1 : A1) (a2 : A2) (a3 : A3) (a4 : A4) (a5 : A5) (a6 : A6) (a7 : A7) (a8 : A8), body rec a1 a2 a3 a4 a5 a6 a7 a8 = some r → P a1 a2 a3 a4 a5 a6 a7 a8) : ∀ (n : Nat) (a1 : A1) (a2 : A2) (a3 : A3) (a4 : A4) (a5 : A5) (a6 : A6) (a7 : A7) (a8 : A8), LP8 body n a1 a2 a3 a4 a5 a6 a7 a8 = some r → P a1 a2 a3 a4 a5 a6 a7 a8 := by
  intro n
  induction n with
  | zero => intro a1 a2 a3 a4 a5 a6 a7 a8 h; cases h
  | succ n ih => intro a1 a2 a3 a4 a5 a6 a7 a8 h; exact hs (LP8 body n) (fun a1 a2 a3 a4 a5 a6 a7 a8 h => ih a1 a2 a3 a4 a5 a6 a7 a8 h) a1 a2 a3 a4 a5 a6 a7 a8 h
theorem LP8_go {A1 A2 A3 A4 A5 A6 A7 A8 R : Type} {body : (A1 → A2 → A3 → A4 → A5 → A6 → A7 → A8 → Option R) → A1 → A2 → A3 → A4 → A5 → A6 → A7 → A8 → Option R} (f1 : Nat → A1) (f2 : Nat → A2) (f3 : Nat → A3) (f4 : Nat → A4) (f5 : Nat → A5) (f6 : Nat → A6) (f7 : Nat → A7) (f8 : Nat → A8) (e : Nat) : ∀ (n j : Nat), (∀ i, j ≤ i → i < j + e → ∀ rec : A1 → A2 → A3 → A4 → A5 → A6 → A7 → A8 → Option R, body rec (f1 i) (f2 i) (f3 i) (f4 i) (f5 i) (f6 i) (f7 i) (f8 i) = rec (f1 (i + 1)) (f2 (i + 1)) (f3 (i + 1)) (f4 (i + 1)) (f5 (i + 1)) (f6 (i + 1)) (f7 (i + 1)) (f8 (i + 1))) → LP8 body (n + e) (f1 j) (f2 j) (f3 j) (f4 j) (f5 j) (f6 j) (f7 j) (f8 j) = LP8 body n (f1 (j + e)) (f2 (j + e)) (f3 (j + e)) (f4 (j + e)) (f5 (j + e)) (f6 (j + e)) (f7 (j + e)) (f8 (j + e)) := by
  induction e with
  | zero => intro n j _; rfl
  | succ e ih =>
    intro n j hs
    have h1 : LP8 body (n + (e + 1)) (f1 j) (f2 j) (f3 j) (f4 j) (f5 j) (f6 j) (f7 j) (f8 j) = body (LP8 body (n + e)) (f1 j) (f2 j) (f3 j) (f4 j) (f5 j) (f6 j) (f7 j) (f8 j) := rfl
    rw [h1, hs j (Nat.le_refl j) (by omega), ih n (j + 1) (fun i h1 h2 => hs i (by omega) (by omega)), show j + 1 + e = j + (e + 1) by omega]
def JN8 {A1 A2 A3 A4 A5 A6 A7 A8 R : Type} (t : A1 → A2 → A3 → A4 → A5 → A6 → A7 → A8 → Option R) (b : (A1 → A2 → A3 → A4 → A5 → A6 → A7 → A8 → Option R) → Option R) : Option R := b t
theorem JN8_el {A1 A2 A3 A4 A5 A6 A7 A8 R : Type} {t : A1 → A2 → A3 → A4 → A5 → A6 → A7 → A8 → Option R} {b : (A1 → A2 → A3 → A4 → A5 → A6 → A7 → A8 → Option R) → Option R} {r : R} {P : A1 → A2 → A3 → A4 → A5 → A6 → A7 → A8 → Prop} (h : JN8 t b = some r) (hp : ∀ (a1 : A1) (a2 : A2) (a3 : A3) (a4 : A4) (a5 : A5) (a6 : A6) (a7 : A7) (a8 : A8), t a1 a2 a3 a4 a5 a6 a7 a8 = some r → P a1 a2 a3 a4 a5 a6 a7 a8) : ∃ t' : A1 → A2 → A3 → A4 → A5 → A6 → A7 → A8 → Option R, (∀ (a1 : A1) (a2 : A2) (a3 : A3) (a4 : A4) (a5 : A5) (a6 : A6) (a7 : A7) (a8 : A8), t' a1 a2 a3 a4 a5 a6 a7 a8 = some r → P a1 a2 a3 a4 a5 a6 a7 a8) ∧ b t' = some r := ⟨t, hp, h⟩
def LP9 {A1 A2 A3 A4 A5 A6 A7 A8 A9 R : Type} (body : (A1 → A2 → A3 → A4 → A5 → A6 → A7 → A8 → A9 → Option R) → A1 → A2 → A3 → A4 → A5 → A6 → A7 → A8 → A9 → Option R) : Nat → A1 → A2 → A3 → A4 → A5 → A6 → A7 → A8 → A9 → Option R
  | 0, _, _, _, _, _, _, _, _, _ => none
  | n + 1, a1, a2, a3, a4, a5, a6, a7, a8, a9 => body (LP9 body n) a1 a2 a3 a4 a5 a6 a7 a8 a9
theorem LP9_s {A1 A2 A3 A4 A5 A6 A7 A8 A9 R : Type} (body : (A1 → A2 → A3 → A4 → A5 → A6 → A7 → A8 → A9 → Option R) → A1 → A2 → A3 → A4 → A5 → A6 → A7 → A8 → A9 → Option R) (n : Nat) (a1 : A1) (a2 : A2) (a3 : A3) (a4 : A4) (a5 : A5) (a6 : A6) (a7 : A7) (a8 : A8) (a9 : A9) : LP9 body (n + 1) a1 a2 a3 a4 a5 a6 a7 a8 a9 = body (LP9 body n) a1 a2 a3 a4 a5 a6 a7 a8 a9 := rfl
theorem LP9_el {A1 A2 A3 A4 A5 A6 A7 A8 A9 R : Type} {body : (A1 → A2 → A3 → A4 → A5 → A6 → A7 → A8 → A9 → Option R) → A1 → A2 → A3 → A4 → A5 → A6 → A7 → A8 → A9 → Option R} {r : R} {P : A1 → A2 → A3 → A4 → A5 → A6 → A7 → A8 → A9 → Prop} (hs : ∀ rec : A1 → A2 → A3 → A4 → A5 → A6 → A7 → A8 → A9 → Option R, (∀ (a1 : A1) (a2 : A2) (a3 : A3) (a4 : A4) (a5 : A5) (a6 : A6) (a7 : A7) (a8 : A8) (a9 : A9), rec a1 a2 a3 a4 a5 a6 a7 a8 a9 = some r → P a1 a2 a3 a4 a5 a6 a7 a8 a9) → ∀ (a1 : A1) (a2 : A2) (a3 : A3) (a4 : A4) (a5 : A5) (a6 : A6) (a7 : A7) (a8 : A8) (a9 : A9), body rec a1 a2 a3 a4 a5 a6 a7 a8 a9 = some r → P a1 a2 a3 a4 a5 a6 a7 a8 a9) : ∀ (n : Nat) (a1 : A1) (a2 : A2) (a3 : A3) (a4 : A4) (a5 : A5) (a6 : A6) (a7 : A7) (a8 : A8) (a9 : A9), LP9 body n a1 a2 a3 a4 a5 a6 a7 a8 a9 = some r → P a1 a2 a3 a4 a5 a6 a7 a8 a9 := by
  intro n
  induction n with
  | zero => intro a1 a2 a3 a4 a5 a6 a7 a8 a9 h; cases h
  | succ n ih => intro a1 a2 a3 a4 a5 a6 a7 a8 a9 h; exact hs (LP9 body n) (fun a1 a2 a3 a4 a5 a6 a7 a8 a9 h => ih a1 a2 a3 a4 a5 a6 a7 a8 a9 h) a1 a2 a3 a4 a5 a6 a7 a8 a9 h
theorem LP9_go {A1 A2 A3 A4 A5 A6 A7 A8 A9 R : Type} {body : (A1 → A2 → A3 → A4 → A5 → A6 → A7 → A8 → A9 → Option R) → A1 → A2 → A3 → A4 → A5 → A6 → A7 → A8 → A9 → Option R} (f1 : Nat → A1) (f2 : Nat → A2) (f3 : Nat → A3) (f4 : Nat → A4) (f5 : Nat → A5) (f6 : Nat → A6) (f7 : Nat → A7) (f8 : Nat → A8) (f9 : Nat → A9) (e : Nat) : ∀ (n j : Nat), (∀ i, j ≤ i → i < j + e → ∀ rec : A1 → A2 → A3 → A4 → A5 → A6 → A7 → A8 → A9 → Option R, body rec (f1 i) (f2 i) (f3 i) (f4 i) (f5 i) (f6 i) (f7 i) (f8 i) (f9 i) = rec (f1 (i + 1)) (f2 (i + 1)) (f3 (i + 1)) (f4 (i + 1)) (f5 (i + 1)) (f6 (i + 1)) (f7 (i + 1)) (f8 (i + 1)) (f9 (i + 1))) → LP9 body (n + e) (f1 j) (f2 j) (f3 j) (f4 j) (f5 j) (f6 j) (f7 j) (f8 j) (f9 j) = LP9 body n (f1 (j + e)) (f2 (j + e)) (f3 (j + e)) (f4 (j + e)) (f5 (j + e)) (f6 (j + e)) (f7 (j + e)) (f8 (j + e)) (f9 (j + e)) := by
  induction e with
  | zero => intro n j _; rfl
  | succ e ih =>
    intro n j hs
    have h1 : LP9 body (n + (e + 1)) (f1 j) (f2 j) (f3 j) (f4 j) (f5 j) (f6 j) (f7 j) (f8 j) (f9 j) = body (LP9 body (n + e)) (f1 j) (f2 j) (f3 j) (f4 j) (f5 j) (f6 j) (f7 j) (f8 j) (f9 j) := rfl
    rw [h1, hs j (Nat.le_refl j) (by omega), ih n (j + 1) (fun i h1 h2 => hs i (by omega) (by omega)), show j + 1 + e = j + (e + 1) by omega]
def JN9 {A1 A2 A3 A4 A5 A6 A7 A8 A9 R : Type} (t : A1 → A2 → A3 → A4 → A5 → A6 → A7 → A8 → A9 → Option R) (b : (A1 → A2 → A3 → A4 → A5 → A6 → A7 → A8 → A9 → Option R) → Option R) : Option R := b t
theorem JN9_el {A1 A2 A3 A4 A5 A6 A7 A8 A9 R : Type} {t : A1 → A2 → A3 → A4 → A5 → A6 → A7 → A8 → A9 → Option R} {b : (A1 → A2 → A3 → A4 → A5 → A6 → A7 → A8 → A9 → Option R) → Option R} {r : R} {P : A1 → A2 → A3 → A4 → A5 → A6 → A7 → A8 → A9 → Prop} (h : JN9 t b = some r) (hp : ∀ (a1 : A1) (a2 : A2) (a3 : A3) (a4 : A4) (a5 : A5) (a6 : A6) (a7 : A7) (a8 : A8) (a9 : A9), t a1 a2 a3 a4 a5 a6 a7 a8 a9 = some r → P a1 a2 a3 a4 a5 a6 a7 a8 a9) : ∃ t' : A1 → A2 → A3 → A4 → A5 → A6 → A7 → A8 → A9 → Option R, (∀ (a1 : A1) (a2 : A2) (a3 : A3) (a4 : A4) (a5 : A5) (a6 : A6) (a7 : A7) (a8 : A8) (a9 : A9), t' a1 a2 a3 a4 a5 a6 a7 a8 a9 = some r → P a1 a2 a3 a4 a5 a6 a7 a8 a9) ∧ b t' = some r := ⟨t, hp, h⟩
def kap (g : Gh) (k : Nat) : ClassId := match (gty g)[k]? with | some q => q.1 | none => 0
theorem e_i2 {v r : Int32} {s s' : Rec} (h : some (v, s) = some (r, s')) : some (Value.int r) = some (Value.int v) := by cases h; rfl
theorem e_w2 {v r : Int32} {s s' : Rec} {G : Wd} {a kd : Nat} (h : some (v, s) = some (r, s')) : wp G a kd s' = wp G a kd s := by cases h; rfl
theorem e_i1 {v r : Int32} (h : some v = some r) : some (Value.int r) = some (Value.int v) := by cases h; rfl
theorem e_l1 {v r : Int64} (h : some v = some r) : some (Value.long r) = some (Value.long v) := by cases h; rfl
theorem e_w1 {s s' : Rec} {G : Wd} {a kd : Nat} (h : some s = some s') : wp G a kd s' = wp G a kd s := by cases h; rfl
theorem vp_lit {i : Int32} {N j : Nat} (h : ¬ i < 0 ∧ i.toNatClampNeg = j ∧ j < N) : vp_in i N ∧ i.toNatClampNeg = j := ⟨fun q => by rcases q with q | q; exact h.1 q; omega, h.2.1⟩
theorem pv_G {X : CX} {k n : Nat} {G G' : Wd} {L : List (Nat × Value)} {st : List Value} {pc : Nat} (e : G' = G) (h : V X k n G' L st pc) : V X k n G L st pc := e ▸ h
theorem pv_tsw {X : CX} {cc : ByteArray} {own : String} {ht k n : Nat} {G : Wd} {L : List (Nat × Value)} {st : List Value} {pc : Nat} {α : Type} {A B : Option α} {r : α} {dflt lo hi : Int} {offs : Array Int} {len : Nat} {x c : Int32} {off : Int} {tgt : Nat} (hc : OK X cc own ht) (d : decode cc pc = .ok (.tableswitch dflt lo hi offs, len)) (h1 : ¬ c.toInt < lo) (h2 : ¬ hi < c.toInt) (ho : offs[(c.toInt - lo).toNat]? = some off) (t : (pc : Int) + off = (tgt : Int)) (h : (if x = c then A else B) = some r) (k1 : A = some r → V X k n G L st tgt) (k2 : x ≠ c → B = some r → V X k n G L (.int x :: st) pc) : V X k n G L (.int x :: st) pc := by
  by_cases hx : x = c
  · rw [if_pos hx] at h
    subst hx
    exact pv_tableIn hc d h1 h2 ho t (k1 h)
  · rw [if_neg hx] at h
    exact k2 hx h
/-- no case of a table: all of its values are told -/
theorem tsw_out {x : Int32} (lo : Int) (cs : List Int32) (hcs : ∀ c ∈ cs, x ≠ c) (hi : Int) (h : (List.range (hi + 1 - lo).toNat).all (fun i => decide (Int32.ofInt (lo + i) ∈ cs)) = true) : x.toInt < lo ∨ hi < x.toInt := by
  by_cases h1 : x.toInt < lo
  · exact Or.inl h1
  · by_cases h2 : hi < x.toInt
    · exact Or.inr h2
    · exfalso
      have h3 := List.all_eq_true.mp h (x.toInt - lo).toNat (List.mem_range.mpr (by omega))
      have h4 := of_decide_eq_true h3
      have e : lo + (((x.toInt - lo).toNat : Nat) : Int) = x.toInt := by omega
      rw [e, Int32.ofInt_toInt] at h4
      exact hcs _ h4 rfl
theorem ne_n {x : Int32} : ∀ c ∈ ([] : List Int32), x ≠ c := fun c h => by cases h
theorem ne_c {x c : Int32} {cs : List Int32} (h : x ≠ c) (t : ∀ c ∈ cs, x ≠ c) : ∀ c' ∈ c :: cs, x ≠ c' := fun c' h' => by
  rcases List.mem_cons.mp h' with q | q
  · rw [q]; exact h
  · exact t c' q
theorem pv_lsw {X : CX} {cc : ByteArray} {own : String} {ht k n : Nat} {G : Wd} {L : List (Nat × Value)} {st : List Value} {pc : Nat} {α : Type} {A B : Option α} {r : α} {dflt : Int} {ps : Array (Int × Int)} {len : Nat} {x c : Int32} {off : Int} {tgt : Nat} (hc : OK X cc own ht) (d : decode cc pc = .ok (.lookupswitch dflt ps, len)) (hp : (ps.toList.zip (ps.toList.drop 1)).all (fun (a, next) => a.1 < next.1) = true) (ho : Op.lookupswitch.offset ps.toList dflt c.toInt = off) (t : (pc : Int) + off = (tgt : Int)) (h : (if x = c then A else B) = some r) (k1 : A = some r → V X k n G L st tgt) (k2 : x ≠ c → B = some r → V X k n G L (.int x :: st) pc) : V X k n G L (.int x :: st) pc := by
  by_cases hx : x = c
  · rw [if_pos hx] at h
    subst hx
    exact pv_lookup hc d hp ho t (k1 h)
  · rw [if_neg hx] at h
    exact k2 hx h
