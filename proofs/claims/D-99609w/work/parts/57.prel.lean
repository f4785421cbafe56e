/-! PURE: how the component's world and the model's record agree -/
/-- words: letters, the last first -/
def WD (l : List Nat) : Prop := 1 ≤ l.length ∧ l.length ≤ 7 ∧ ∀ c ∈ l, 97 ≤ c ∧ c ≤ 122
def p8 : List Nat → Nat
  | [] => 0
  | c :: t => p8 t * 256 + c
def p27 : List Nat → Nat
  | [] => 0
  | c :: t => p27 t * 27 + (c - 96)
theorem p8_lt : ∀ l : List Nat, (∀ c ∈ l, 97 ≤ c ∧ c ≤ 122) → p8 l < 256 ^ l.length := by
  intro l
  induction l with
  | nil => intro _; exact Nat.one_pos
  | cons c t ih =>
    intro h
    have h1 := ih (fun x hx => h x (List.mem_cons_of_mem _ hx))
    have h2 := h c List.mem_cons_self
    rw [List.length_cons, Nat.pow_succ]
    show p8 t * 256 + c < _
    omega
theorem p27_lt : ∀ l : List Nat, (∀ c ∈ l, 97 ≤ c ∧ c ≤ 122) → p27 l < 27 ^ l.length := by
  intro l
  induction l with
  | nil => intro _; exact Nat.one_pos
  | cons c t ih =>
    intro h
    have h1 := ih (fun x hx => h x (List.mem_cons_of_mem _ hx))
    have h2 := h c List.mem_cons_self
    rw [List.length_cons, Nat.pow_succ]
    show p27 t * 27 + (c - 96) < _
    omega
theorem WD.p8 {l : List Nat} (h : WD l) : p8 l < 2 ^ 56 := Nat.lt_of_lt_of_le (p8_lt l h.2.2) (Nat.le_trans (Nat.pow_le_pow_right (by omega) h.2.1) (by decide))
theorem WD.p27 {l : List Nat} (h : WD l) : p27 l < 2 ^ 56 := Nat.lt_of_lt_of_le (p27_lt l h.2.2) (Nat.le_trans (Nat.pow_le_pow_right (by omega) h.2.1) (by decide))
theorem p8_inj : ∀ {l l' : List Nat}, (∀ c ∈ l, 97 ≤ c ∧ c ≤ 122) → (∀ c ∈ l', 97 ≤ c ∧ c ≤ 122) → p8 l = p8 l' → l = l' := by
  intro l
  induction l with
  | nil =>
    intro l' _ h' e
    cases l' with
    | nil => rfl
    | cons c t =>
      have h2 := h' c List.mem_cons_self
      have e' : 0 = p8 t * 256 + c := e
      omega
  | cons c t ih =>
    intro l' h h' e
    have h1 := h c List.mem_cons_self
    cases l' with
    | nil =>
      have e' : p8 t * 256 + c = 0 := e
      omega
    | cons c' t' =>
      have h2 := h' c' List.mem_cons_self
      have e' : p8 t * 256 + c = p8 t' * 256 + c' := e
      have e1 : c = c' := by omega
      have e2 : p8 t = p8 t' := by omega
      rw [e1, ih (fun x hx => h x (List.mem_cons_of_mem _ hx)) (fun x hx => h' x (List.mem_cons_of_mem _ hx)) e2]
theorem p27_inj : ∀ {l l' : List Nat}, (∀ c ∈ l, 97 ≤ c ∧ c ≤ 122) → (∀ c ∈ l', 97 ≤ c ∧ c ≤ 122) → p27 l = p27 l' → l = l' := by
  intro l
  induction l with
  | nil =>
    intro l' _ h' e
    cases l' with
    | nil => rfl
    | cons c t =>
      have h2 := h' c List.mem_cons_self
      have e' : 0 = p27 t * 27 + (c - 96) := e
      omega
  | cons c t ih =>
    intro l' h h' e
    have h1 := h c List.mem_cons_self
    cases l' with
    | nil =>
      have e' : p27 t * 27 + (c - 96) = 0 := e
      omega
    | cons c' t' =>
      have h2 := h' c' List.mem_cons_self
      have e' : p27 t * 27 + (c - 96) = p27 t' * 27 + (c' - 96) := e
      have e1 : c = c' := by omega
      have e2 : p27 t = p27 t' := by omega
      rw [e1, ih (fun x hx => h x (List.mem_cons_of_mem _ hx)) (fun x hx => h' x (List.mem_cons_of_mem _ hx)) e2]
/-- one name, told twice -/
def NM1 (a b : Int64) : Prop := ∃ l, WD l ∧ a = lN (p8 l) ∧ b = lN (p27 l)
/-- the names of a house: parlours, plants, persons, deeds -/
def NM (e : Rec) (w : Nat → Int64) (d : Nat → Nat) : Prop := (∀ i, i < d 0 → NM1 (gL e 0 i) (w i)) ∧ (∀ i, i < d 1 → NM1 (gL e 1 i) (w (5 + i))) ∧ (∀ i, i < d 2 → NM1 (gL e 2 i) (w (11 + i))) ∧ (∀ i, i < d 3 → NM1 (gL e 3 i) (w (15 + i)))
theorem NM_ext {e : Rec} {w w' : Nat → Int64} {d d' : Nat → Nat} (h : NM e w d) (hd : DH d) (h0 : ∀ k, k < 4 → d' k = d k) (hw : ∀ i, i < 20 → w' i = w i) : NM e w' d' := by
  obtain ⟨a, b, c, f⟩ := h
  obtain ⟨k0, k1, k2, k3, -⟩ := hd
  refine ⟨fun i hi => ?_, fun i hi => ?_, fun i hi => ?_, fun i hi => ?_⟩
  · rw [h0 _ (by omega)] at hi; rw [hw _ (by omega)]; exact a i hi
  · rw [h0 _ (by omega)] at hi; rw [hw _ (by omega)]; exact b i hi
  · rw [h0 _ (by omega)] at hi; rw [hw _ (by omega)]; exact c i hi
  · rw [h0 _ (by omega)] at hi; rw [hw _ (by omega)]; exact f i hi
/-- a sentence: the tree of objects and the rows of four -/
def CTR : Nat → Wd → Nat → (Nat → Nat) → Nat → Prop
  | 0, _, _, _, _ => False
  | n + 1, G, q, nd, k => k < 60 ∧
      ((∃ r q1, G.2 q = some (12, r) ∧ nd (4 * k) = 1 ∧ gP r 0 = some q1 ∧ CTR n G q1 nd (nd (4 * k + 1))) ∨
       (∃ r q1 q2, G.2 q = some (15, r) ∧ nd (4 * k) = 2 ∧ gP r 0 = some q1 ∧ gP r 1 = some q2 ∧ CTR n G q1 nd (nd (4 * k + 1)) ∧ CTR n G q2 nd (nd (4 * k + 2))) ∨
       (∃ r q1 q2, G.2 q = some (16, r) ∧ nd (4 * k) = 3 ∧ gP r 0 = some q1 ∧ gP r 1 = some q2 ∧ CTR n G q1 nd (nd (4 * k + 1)) ∧ CTR n G q2 nd (nd (4 * k + 2))) ∨
       (∃ r w, G.2 q = some (13, r) ∧ w < 5 ∧ gI r 0 = nI w ∧ nd (4 * k) = 64 + w ∧ (2 ≤ w → gI r 1 = nI (nd (4 * k + 1)) ∧ nd (4 * k + 1) < 5)) ∨
       (∃ r w, G.2 q = some (14, r) ∧ w < 3 ∧ gI r 0 = nI w ∧ nd (4 * k) = 69 + w ∧ gI r 1 = nI (nd (4 * k + 3)) ∧ gI r 2 = nI (nd (4 * k + 2)) ∧ nd (4 * k + 2) ≤ 999 ∧ nd (4 * k + 3) < 256))
/-- kinds that are never written again -/
def FX (G G' : Wd) : Prop := ∀ a kd r, (kd = 2 ∨ (12 ≤ kd ∧ kd ≤ 16)) → G.2 a = some (kd, r) → G'.2 a = some (kd, r)
theorem FX.refl (G : Wd) : FX G G := fun _ _ _ _ h => h
theorem FX.trans {A B C : Wd} (h : FX A B) (h2 : FX B C) : FX A C := fun a kd r hk h0 => h2 a kd r hk (h a kd r hk h0)
theorem CTR_ext {G G' : Wd} (h : FX G G') {nd nd' : Nat → Nat} : ∀ {n q k : Nat}, (∀ j, j < 240 → nd' j = nd j) → CTR n G q nd k → CTR n G' q nd' k := by
  intro n
  induction n with
  | zero => intro q k _ hc; exact hc
  | succ n ih =>
    intro q k hn hc
    obtain ⟨hk, hc⟩ := hc
    refine ⟨hk, ?_⟩
    rw [hn _ (show 4 * k < 240 by omega), hn _ (show 4 * k + 1 < 240 by omega), hn _ (show 4 * k + 2 < 240 by omega), hn _ (show 4 * k + 3 < 240 by omega)]
    rcases hc with ⟨r, q1, a, b, c, e⟩ | ⟨r, q1, q2, a, b, c, d, e, f⟩ | ⟨r, q1, q2, a, b, c, d, e, f⟩ | ⟨r, w, a, b⟩ | ⟨r, w, a, b⟩
    · exact Or.inl ⟨r, q1, h _ _ _ (by omega) a, b, c, ih hn e⟩
    · exact Or.inr (Or.inl ⟨r, q1, q2, h _ _ _ (by omega) a, b, c, d, ih hn e, ih hn f⟩)
    · exact Or.inr (Or.inr (Or.inl ⟨r, q1, q2, h _ _ _ (by omega) a, b, c, d, ih hn e, ih hn f⟩))
    · exact Or.inr (Or.inr (Or.inr (Or.inl ⟨r, w, h _ _ _ (by omega) a, b⟩)))
    · exact Or.inr (Or.inr (Or.inr (Or.inr ⟨r, w, h _ _ _ (by omega) a, b⟩)))
def SEN (G : Wd) (o : Option Nat) (d : Nat → Nat) : Prop := (o = none ∧ d 164 = 0) ∨ (∃ q, o = some q ∧ d 164 = 1 ∧ d 165 < 45 ∧ CTR 50 G q (fun j => d (166 + j)) (d 165))
theorem SEN_ext {G G' : Wd} (h : FX G G') {o : Option Nat} {d d' : Nat → Nat} (hd : ∀ k, 164 ≤ k → k < 406 → d' k = d k) (hs : SEN G o d) : SEN G' o d' := by
  rcases hs with ⟨a, b⟩ | ⟨q, a, b, c, e⟩
  · exact Or.inl ⟨a, by rw [hd _ (by omega) (by omega)]; exact b⟩
  · refine Or.inr ⟨q, a, by rw [hd _ (by omega) (by omega)]; exact b, by rw [hd _ (by omega) (by omega)]; exact c, ?_⟩
    rw [hd 165 (by omega) (by omega)]
    exact CTR_ext h (fun j hj => hd _ (by omega) (by omega)) e
/-- a byte of the tape, as both have it -/
def TB (a b : Int32) : Prop := ∃ t, t < 256 ∧ a = nI t ∧ b = (nI t).toInt8.toInt32
/-- single fields and rows of the main object against the model's -/
def MS (c m : Rec) : Prop :=
  (∀ i, i < 940 → TB (gA m 1 i) (gA c 0 i)) ∧
  (∃ n, n ≤ 940 ∧ gI c 1 = nI n ∧ gI m 2 = nI n) ∧
  (gI c 11 = gI m 10) ∧
  ((gI c 15 = 0 ∧ gI m 25 = -1) ∨ (gI c 15 = 1 ∧ gI c 14 = gI m 25)) ∧
  ((gI c 17 = 0 ∧ gI m 26 = -1) ∨ (gI c 17 = 1 ∧ gI c 16 = gI m 26)) ∧
  (∃ k, k ≤ 32 ∧ gI m 29 = nI k ∧ (gI c 20 = nI k ∨ (k = 0 ∧ gI c 20 = -1)) ∧ ∀ i, i < k → gA c 19 i = gA m 28 i) ∧
  ((gI c 25 = 0 ∧ gI m 31 = 0) ∨ (gI c 25 = 1 ∧ gI m 31 = 1 ∧ gI c 21 = gA m 30 0 ∧ gI c 22 = gA m 30 1 ∧ gI c 23 = gA m 30 2)) ∧
  (∃ k, k ≤ 40 ∧ gI c 27 = nI k ∧ gI m 34 = nI k ∧ ∀ i, i < k → gA c 26 i = gA m 33 i) ∧
  ((gI c 29 = 0 ∧ gI m 39 = 0) ∨ (gI c 29 = 1 ∧ gI m 39 = 1 ∧ ∀ i, i < 4 → gA c 28 i = gA m 37 i))
/-- the component's objects where they must be -/
def RB (x : Nat) (G : Wd) (c : Rec) (b : Nat) (e z : Rec) : Prop := G.2 x = some (0, c) ∧ gP c 6 = some b ∧ G.2 b = some (2, e) ∧ G.2 (x + 13) = some (3, z) ∧ (∃ y, G.2 (x + 21) = some (3, y)) ∧ (∀ a, G.1 ≤ a → G.2 a = none)
/-- house and state against the row -/
def RS (m e z : Rec) (d : Nat → Nat) : Prop := HS e d ∧ NM e (gL m 19) d ∧ ZS z d ∧ GD d ∧ gA m 14 = RF d
/-- what can be come back to -/
def RU (x : Nat) (G : Wd) (m c : Rec) (d : Nat → Nat) (ow : Nat → Nat) (n : Nat) (U : Nat → Nat → Nat) : Prop :=
  n ≤ 8 ∧ gI c 13 = nI n ∧ gI m 24 = nI n ∧ (∀ i, i < n → ∀ j, j < 140 → gA m 17 (140 * i + j) = RF (U i) (24 + j)) ∧ (∀ i, i < n → GD (mixD (U i) d)) ∧
  (∀ i, i < n → ∃ a zi, gQ c 12 i = some a ∧ G.2 a = some (3, zi) ∧ ZS zi (U i)) ∧
  (∀ i, i < 8 → ∀ a, gQ c 12 i = some a → (∃ zi, G.2 a = some (3, zi)) ∧ ow a = 2 + i) ∧ ow (x + 13) = 0 ∧ ow (x + 21) = 1
/-- an image -/
def IM1 (G : Wd) (m c : Rec) (ow : Nat → Nat) (k : Nat) : Prop :=
  (gQ c 32 k = none ∧ gA m 22 k = 0) ∨ (∃ q r hb eh sa sz dk, gQ c 32 k = some q ∧ ow q = 12 + k ∧ gA m 22 k = 1 ∧ G.2 q = some (17, r) ∧ gP r 0 = some hb ∧ G.2 hb = some (2, eh) ∧ gP r 1 = some sa ∧ ow sa = 10 + k ∧ G.2 sa = some (3, sz) ∧ HS eh dk ∧ NM eh (fun i => gL m 21 (20 * k + i)) dk ∧ ZS sz dk ∧ GD dk ∧ SEN G (gP r 2) dk ∧ (∀ j, j < 406 → gA m 16 (406 * k + j) = RF dk j))
def RR (x : Nat) (G : Wd) (m c : Rec) (b : Nat) (e z : Rec) (d : Nat → Nat) (ow : Nat → Nat) (n : Nat) (U : Nat → Nat → Nat) : Prop :=
  RB x G c b e z ∧ RS m e z d ∧ MS c m ∧ RU x G m c d ow n U ∧ (∀ k, k < 2 → IM1 G m c ow k) ∧ SEN G (gP c 31) d
def REL (x : Nat) (G : Wd) (m : Rec) : Prop := ∃ c b e z d ow n U, RR x G m c b e z d ow n U
/-- what is the component's, and what is not, stays -/
def KP (G G' : Wd) : Prop := G.1 ≤ G'.1 ∧ G'.1 ≤ G.1 + 90 ∧ ∀ a kd r, (kd = 7 ∨ kd = 61) → G.2 a = some (kd, r) → G'.2 a = some (kd, r)
theorem KP.refl (G : Wd) : KP G G := ⟨Nat.le_refl _, by omega, fun _ _ _ _ h => h⟩
