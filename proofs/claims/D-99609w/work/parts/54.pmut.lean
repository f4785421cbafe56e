/-! PURE: what changes a state: programs over rows of Nats, and both sides do them -/
theorem LP1_inv {A1 R : Type} {body : (A1 → Option R) → A1 → Option R} (I : Nat → A1 → Prop) (Q : Option R → Prop) (e : Nat) (he : e ≤ 50000) {a1 : A1} (h0 : I 0 a1) (hs : ∀ (i : Nat) (a1 : A1) (rec : A1 → Option R), i < e → I i a1 → (∃ (b1 : A1), I (i + 1) b1 ∧ body rec a1 = rec b1) ∨ Q (body rec a1)) (hx : ∀ (a1 : A1) (rec : A1 → Option R), I e a1 → Q (body rec a1)) : Q (LP1 body FU a1) := by
  have key : ∀ (n i : Nat) (a1 : A1), i ≤ e → e - i < n → I i a1 → Q (LP1 body n a1) := by
    intro n
    induction n with
    | zero => intro i a1 _ h; omega
    | succ n ih =>
      intro i a1 h1 h2 h3
      rw [LP1_s]
      by_cases hi : i = e
      · subst hi; exact hx a1 _ h3
      · rcases hs i a1 (LP1 body n) (by omega) h3 with ⟨b1, hb, hr⟩ | hq
        · rw [hr]; exact ih (i + 1) b1 (by omega) (by omega) hb
        · exact hq
  exact key FU 0 a1 (by omega) (by unfold FU; omega) h0
theorem LP2_inv {A1 A2 R : Type} {body : (A1 → A2 → Option R) → A1 → A2 → Option R} (I : Nat → A1 → A2 → Prop) (Q : Option R → Prop) (e : Nat) (he : e ≤ 50000) {a1 : A1} {a2 : A2} (h0 : I 0 a1 a2) (hs : ∀ (i : Nat) (a1 : A1) (a2 : A2) (rec : A1 → A2 → Option R), i < e → I i a1 a2 → (∃ (b1 : A1) (b2 : A2), I (i + 1) b1 b2 ∧ body rec a1 a2 = rec b1 b2) ∨ Q (body rec a1 a2)) (hx : ∀ (a1 : A1) (a2 : A2) (rec : A1 → A2 → Option R), I e a1 a2 → Q (body rec a1 a2)) : Q (LP2 body FU a1 a2) := by
  have key : ∀ (n i : Nat) (a1 : A1) (a2 : A2), i ≤ e → e - i < n → I i a1 a2 → Q (LP2 body n a1 a2) := by
    intro n
    induction n with
    | zero => intro i a1 a2 _ h; omega
    | succ n ih =>
      intro i a1 a2 h1 h2 h3
      rw [LP2_s]
      by_cases hi : i = e
      · subst hi; exact hx a1 a2 _ h3
      · rcases hs i a1 a2 (LP2 body n) (by omega) h3 with ⟨b1, b2, hb, hr⟩ | hq
        · rw [hr]; exact ih (i + 1) b1 b2 (by omega) (by omega) hb
        · exact hq
  exact key FU 0 a1 a2 (by omega) (by unfold FU; omega) h0
theorem LP3_inv {A1 A2 A3 R : Type} {body : (A1 → A2 → A3 → Option R) → A1 → A2 → A3 → Option R} (I : Nat → A1 → A2 → A3 → Prop) (Q : Option R → Prop) (e : Nat) (he : e ≤ 50000) {a1 : A1} {a2 : A2} {a3 : A3} (h0 : I 0 a1 a2 a3) (hs : ∀ (i : Nat) (a1 : A1) (a2 : A2) (a3 : A3) (rec : A1 → A2 → A3 → Option R), i < e → I i a1 a2 a3 → (∃ (b1 : A1) (b2 : A2) (b3 : A3), I (i + 1) b1 b2 b3 ∧ body rec a1 a2 a3 = rec b1 b2 b3) ∨ Q (body rec a1 a2 a3)) (hx : ∀ (a1 : A1) (a2 : A2) (a3 : A3) (rec : A1 → A2 → A3 → Option R), I e a1 a2 a3 → Q (body rec a1 a2 a3)) : Q (LP3 body FU a1 a2 a3) := by
  have key : ∀ (n i : Nat) (a1 : A1) (a2 : A2) (a3 : A3), i ≤ e → e - i < n → I i a1 a2 a3 → Q (LP3 body n a1 a2 a3) := by
    intro n
    induction n with
    | zero => intro i a1 a2 a3 _ h; omega
    | succ n ih =>
      intro i a1 a2 a3 h1 h2 h3
      rw [LP3_s]
      by_cases hi : i = e
      · subst hi; exact hx a1 a2 a3 _ h3
      · rcases hs i a1 a2 a3 (LP3 body n) (by omega) h3 with ⟨b1, b2, b3, hb, hr⟩ | hq
        · rw [hr]; exact ih (i + 1) b1 b2 b3 (by omega) (by omega) hb
        · exact hq
  exact key FU 0 a1 a2 a3 (by omega) (by unfold FU; omega) h0
theorem LP4_inv {A1 A2 A3 A4 R : Type} {body : (A1 → A2 → A3 → A4 → Option R) → A1 → A2 → A3 → A4 → Option R} (I : Nat → A1 → A2 → A3 → A4 → Prop) (Q : Option R → Prop) (e : Nat) (he : e ≤ 50000) {a1 : A1} {a2 : A2} {a3 : A3} {a4 : A4} (h0 : I 0 a1 a2 a3 a4) (hs : ∀ (i : Nat) (a1 : A1) (a2 : A2) (a3 : A3) (a4 : A4) (rec : A1 → A2 → A3 → A4 → Option R), i < e → I i a1 a2 a3 a4 → (∃ (b1 : A1) (b2 : A2) (b3 : A3) (b4 : A4), I (i + 1) b1 b2 b3 b4 ∧ body rec a1 a2 a3 a4 = rec b1 b2 b3 b4) ∨ Q (body rec a1 a2 a3 a4)) (hx : ∀ (a1 : A1) (a2 : A2) (a3 : A3) (a4 : A4) (rec : A1 → A2 → A3 → A4 → Option R), I e a1 a2 a3 a4 → Q (body rec a1 a2 a3 a4)) : Q (LP4 body FU a1 a2 a3 a4) := by
  have key : ∀ (n i : Nat) (a1 : A1) (a2 : A2) (a3 : A3) (a4 : A4), i ≤ e → e - i < n → I i a1 a2 a3 a4 → Q (LP4 body n a1 a2 a3 a4) := by
    intro n
    induction n with
    | zero => intro i a1 a2 a3 a4 _ h; omega
    | succ n ih =>
      intro i a1 a2 a3 a4 h1 h2 h3
      rw [LP4_s]
      by_cases hi : i = e
      · subst hi; exact hx a1 a2 a3 a4 _ h3
      · rcases hs i a1 a2 a3 a4 (LP4 body n) (by omega) h3 with ⟨b1, b2, b3, b4, hb, hr⟩ | hq
        · rw [hr]; exact ih (i + 1) b1 b2 b3 b4 (by omega) (by omega) hb
        · exact hq
  exact key FU 0 a1 a2 a3 a4 (by omega) (by unfold FU; omega) h0
theorem LP5_inv {A1 A2 A3 A4 A5 R : Type} {body : (A1 → A2 → A3 → A4 → A5 → Option R) → A1 → A2 → A3 → A4 → A5 → Option R} (I : Nat → A1 → A2 → A3 → A4 → A5 → Prop) (Q : Option R → Prop) (e : Nat) (he : e ≤ 50000) {a1 : A1} {a2 : A2} {a3 : A3} {a4 : A4} {a5 : A5} (h0 : I 0 a1 a2 a3 a4 a5) (hs : ∀ (i : Nat) (a1 : A1) (a2 : A2) (a3 : A3) (a4 : A4) (a5 : A5) (rec : A1 → A2 → A3 → A4 → A5 → Option R), i < e → I i a1 a2 a3 a4 a5 → (∃ (b1 : A1) (b2 : A2) (b3 : A3) (b4 : A4) (b5 : A5), I (i + 1) b1 b2 b3 b4 b5 ∧ body rec a1 a2 a3 a4 a5 = rec b1 b2 b3 b4 b5) ∨ Q (body rec a1 a2 a3 a4 a5)) (hx : ∀ (a1 : A1) (a2 : A2) (a3 : A3) (a4 : A4) (a5 : A5) (rec : A1 → A2 → A3 → A4 → A5 → Option R), I e a1 a2 a3 a4 a5 → Q (body rec a1 a2 a3 a4 a5)) : Q (LP5 body FU a1 a2 a3 a4 a5) := by
  have key : ∀ (n i : Nat) (a1 : A1) (a2 : A2) (a3 : A3) (a4 : A4) (a5 : A5), i ≤ e → e - i < n → I i a1 a2 a3 a4 a5 → Q (LP5 body n a1 a2 a3 a4 a5) := by
    intro n
    induction n with
    | zero => intro i a1 a2 a3 a4 a5 _ h; omega
    | succ n ih =>
      intro i a1 a2 a3 a4 a5 h1 h2 h3
      rw [LP5_s]
      by_cases hi : i = e
      · subst hi; exact hx a1 a2 a3 a4 a5 _ h3
      · rcases hs i a1 a2 a3 a4 a5 (LP5 body n) (by omega) h3 with ⟨b1, b2, b3, b4, b5, hb, hr⟩ | hq
        · rw [hr]; exact ih (i + 1) b1 b2 b3 b4 b5 (by omega) (by omega) hb
        · exact hq
  exact key FU 0 a1 a2 a3 a4 a5 (by omega) (by unfold FU; omega) h0
theorem LP6_inv {A1 A2 A3 A4 A5 A6 R : Type} {body : (A1 → A2 → A3 → A4 → A5 → A6 → Option R) → A1 → A2 → A3 → A4 → A5 → A6 → Option R} (I : Nat → A1 → A2 → A3 → A4 → A5 → A6 → Prop) (Q : Option R → Prop) (e : Nat) (he : e ≤ 50000) {a1 : A1} {a2 : A2} {a3 : A3} {a4 : A4} {a5 : A5} {a6 : A6} (h0 : I 0 a1 a2 a3 a4 a5 a6) (hs : ∀ (i : Nat) (a1 : A1) (a2 : A2) (a3 : A3) (a4 : A4) (a5 : A5) (a6 : A6) (rec : A1 → A2 → A3 → A4 → A5 → A6 → Option R), i < e → I i a1 a2 a3 a4 a5 a6 → (∃ (b1 : A1) (b2 : A2) (b3 : A3) (b4 : A4) (b5 : A5) (b6 : A6), I (i + 1) b1 b2 b3 b4 b5 b6 ∧ body rec a1 a2 a3 a4 a5 a6 = rec b1 b2 b3 b4 b5 b6) ∨ Q (body rec a1 a2 a3 a4 a5 a6)) (hx : ∀ (a1 : A1) (a2 : A2) (a3 : A3) (a4 : A4) (a5 : A5) (a6 : A6) (rec : A1 → A2 → A3 → A4 → A5 → A6 → Option R), I e a1 a2 a3 a4 a5 a6 → Q (body rec a1 a2 a3 a4 a5 a6)) : Q (LP6 body FU a1 a2 a3 a4 a5 a6) := by
  have key : ∀ (n i : Nat) (a1 : A1) (a2 : A2) (a3 : A3) (a4 : A4) (a5 : A5) (a6 : A6), i ≤ e → e - i < n → I i a1 a2 a3 a4 a5 a6 → Q (LP6 body n a1 a2 a3 a4 a5 a6) := by
    intro n
    induction n with
    | zero => intro i a1 a2 a3 a4 a5 a6 _ h; omega
    | succ n ih =>
      intro i a1 a2 a3 a4 a5 a6 h1 h2 h3
      rw [LP6_s]
      by_cases hi : i = e
      · subst hi; exact hx a1 a2 a3 a4 a5 a6 _ h3
      · rcases hs i a1 a2 a3 a4 a5 a6 (LP6 body n) (by omega) h3 with ⟨b1, b2, b3, b4, b5, b6, hb, hr⟩ | hq
        · rw [hr]; exact ih (i + 1) b1 b2 b3 b4 b5 b6 (by omega) (by omega) hb
        · exact hq
  exact key FU 0 a1 a2 a3 a4 a5 a6 (by omega) (by unfold FU; omega) h0
theorem ZS_I7 {z : Rec} {d : Nat → Nat} (h : ZS z d) {v : Nat} : ZS (sI z 7 (nI v)) (va_up d 24 v) := by
  obtain ⟨z7, z8, z0, z1, z2, z3, z4, z5, z6⟩ := h
  refine ⟨?_, ?_, fun q hq => ?_, fun q hq => ?_, fun q hq => ?_, fun q hq => ?_, fun q hq => ?_, fun q hq => ?_, fun q i hq hi => ?_⟩
  · rw [gI_sIs, up_s]
  · rw [gI_sIn _ _ (by omega), up_n _ _ (by omega)]; exact z8
  · rw [gA_sI, up_n _ _ (by omega)]; exact z0 q hq
  · rw [gA_sI, up_n _ _ (by omega)]; exact z1 q hq
  · rw [gA_sI, up_n _ _ (by omega)]; exact z2 q hq
  · rw [gA_sI, up_n _ _ (by omega)]; exact z3 q hq
  · rw [gA_sI, up_n _ _ (by omega)]; exact z4 q hq
  · rw [gA_sI, up_n _ _ (by omega)]; exact z5 q hq
  · rw [gA_sI, up_n _ _ (by omega)]; exact z6 q i hq hi
theorem ZS_I8 {z : Rec} {d : Nat → Nat} (h : ZS z d) {v : Nat} : ZS (sI z 8 (nI v)) (va_up d 25 v) := by
  obtain ⟨z7, z8, z0, z1, z2, z3, z4, z5, z6⟩ := h
  refine ⟨?_, ?_, fun q hq => ?_, fun q hq => ?_, fun q hq => ?_, fun q hq => ?_, fun q hq => ?_, fun q hq => ?_, fun q i hq hi => ?_⟩
  · rw [gI_sIn _ _ (by omega), up_n _ _ (by omega)]; exact z7
  · rw [gI_sIs, up_s]
  · rw [gA_sI, up_n _ _ (by omega)]; exact z0 q hq
  · rw [gA_sI, up_n _ _ (by omega)]; exact z1 q hq
  · rw [gA_sI, up_n _ _ (by omega)]; exact z2 q hq
  · rw [gA_sI, up_n _ _ (by omega)]; exact z3 q hq
  · rw [gA_sI, up_n _ _ (by omega)]; exact z4 q hq
  · rw [gA_sI, up_n _ _ (by omega)]; exact z5 q hq
  · rw [gA_sI, up_n _ _ (by omega)]; exact z6 q i hq hi
theorem ZS_A0 {z : Rec} {d : Nat → Nat} (h : ZS z d) {r v : Nat} (hr : r < 6) : ZS (sA z 0 r (nI v)) (va_up d (26 + r) v) := by
  obtain ⟨z7, z8, z0, z1, z2, z3, z4, z5, z6⟩ := h
  refine ⟨?_, ?_, fun q hq => ?_, fun q hq => ?_, fun q hq => ?_, fun q hq => ?_, fun q hq => ?_, fun q hq => ?_, fun q i hq hi => ?_⟩
  · rw [gI_sA, up_n _ _ (by omega)]; exact z7
  · rw [gI_sA, up_n _ _ (by omega)]; exact z8
  · by_cases e : q = r
    · subst e; rw [gA_sAs, up_s]
    · rw [gA_sAi _ _ _ e, up_n _ _ (by omega)]; exact z0 q hq
  · rw [gA_sAn _ _ _ (by omega), up_n _ _ (by omega)]; exact z1 q hq
  · rw [gA_sAn _ _ _ (by omega), up_n _ _ (by omega)]; exact z2 q hq
  · rw [gA_sAn _ _ _ (by omega), up_n _ _ (by omega)]; exact z3 q hq
  · rw [gA_sAn _ _ _ (by omega), up_n _ _ (by omega)]; exact z4 q hq
  · rw [gA_sAn _ _ _ (by omega), up_n _ _ (by omega)]; exact z5 q hq
  · rw [gA_sAn _ _ _ (by omega), up_n _ _ (by omega)]; exact z6 q i hq hi
theorem ZS_A1 {z : Rec} {d : Nat → Nat} (h : ZS z d) {r v : Nat} (hr : r < 6) : ZS (sA z 1 r (nI v)) (va_up d (32 + r) v) := by
  obtain ⟨z7, z8, z0, z1, z2, z3, z4, z5, z6⟩ := h
  refine ⟨?_, ?_, fun q hq => ?_, fun q hq => ?_, fun q hq => ?_, fun q hq => ?_, fun q hq => ?_, fun q hq => ?_, fun q i hq hi => ?_⟩
  · rw [gI_sA, up_n _ _ (by omega)]; exact z7
  · rw [gI_sA, up_n _ _ (by omega)]; exact z8
  · rw [gA_sAn _ _ _ (by omega), up_n _ _ (by omega)]; exact z0 q hq
  · by_cases e : q = r
    · subst e; rw [gA_sAs, up_s]
    · rw [gA_sAi _ _ _ e, up_n _ _ (by omega)]; exact z1 q hq
  · rw [gA_sAn _ _ _ (by omega), up_n _ _ (by omega)]; exact z2 q hq
  · rw [gA_sAn _ _ _ (by omega), up_n _ _ (by omega)]; exact z3 q hq
  · rw [gA_sAn _ _ _ (by omega), up_n _ _ (by omega)]; exact z4 q hq
  · rw [gA_sAn _ _ _ (by omega), up_n _ _ (by omega)]; exact z5 q hq
  · rw [gA_sAn _ _ _ (by omega), up_n _ _ (by omega)]; exact z6 q i hq hi
theorem ZS_A2 {z : Rec} {d : Nat → Nat} (h : ZS z d) {r v : Nat} (hr : r < 12) : ZS (sA z 2 r (nI v)) (va_up d (38 + r) v) := by
  obtain ⟨z7, z8, z0, z1, z2, z3, z4, z5, z6⟩ := h
  refine ⟨?_, ?_, fun q hq => ?_, fun q hq => ?_, fun q hq => ?_, fun q hq => ?_, fun q hq => ?_, fun q hq => ?_, fun q i hq hi => ?_⟩
  · rw [gI_sA, up_n _ _ (by omega)]; exact z7
  · rw [gI_sA, up_n _ _ (by omega)]; exact z8
  · rw [gA_sAn _ _ _ (by omega), up_n _ _ (by omega)]; exact z0 q hq
  · rw [gA_sAn _ _ _ (by omega), up_n _ _ (by omega)]; exact z1 q hq
  · by_cases e : q = r
    · subst e; rw [gA_sAs, up_s]
    · rw [gA_sAi _ _ _ e, up_n _ _ (by omega)]; exact z2 q hq
  · rw [gA_sAn _ _ _ (by omega), up_n _ _ (by omega)]; exact z3 q hq
  · rw [gA_sAn _ _ _ (by omega), up_n _ _ (by omega)]; exact z4 q hq
  · rw [gA_sAn _ _ _ (by omega), up_n _ _ (by omega)]; exact z5 q hq
  · rw [gA_sAn _ _ _ (by omega), up_n _ _ (by omega)]; exact z6 q i hq hi
theorem ZS_A3 {z : Rec} {d : Nat → Nat} (h : ZS z d) {r v : Nat} (hr : r < 12) : ZS (sA z 3 r (nI v)) (va_up d (50 + r) v) := by
  obtain ⟨z7, z8, z0, z1, z2, z3, z4, z5, z6⟩ := h
  refine ⟨?_, ?_, fun q hq => ?_, fun q hq => ?_, fun q hq => ?_, fun q hq => ?_, fun q hq => ?_, fun q hq => ?_, fun q i hq hi => ?_⟩
  · rw [gI_sA, up_n _ _ (by omega)]; exact z7
  · rw [gI_sA, up_n _ _ (by omega)]; exact z8
  · rw [gA_sAn _ _ _ (by omega), up_n _ _ (by omega)]; exact z0 q hq
  · rw [gA_sAn _ _ _ (by omega), up_n _ _ (by omega)]; exact z1 q hq
  · rw [gA_sAn _ _ _ (by omega), up_n _ _ (by omega)]; exact z2 q hq
  · by_cases e : q = r
    · subst e; rw [gA_sAs, up_s]
    · rw [gA_sAi _ _ _ e, up_n _ _ (by omega)]; exact z3 q hq
  · rw [gA_sAn _ _ _ (by omega), up_n _ _ (by omega)]; exact z4 q hq
  · rw [gA_sAn _ _ _ (by omega), up_n _ _ (by omega)]; exact z5 q hq
  · rw [gA_sAn _ _ _ (by omega), up_n _ _ (by omega)]; exact z6 q i hq hi
theorem ZS_A4 {z : Rec} {d : Nat → Nat} (h : ZS z d) {r v : Nat} (hr : r < 12) : ZS (sA z 4 r (nI v)) (va_up d (62 + r) v) := by
  obtain ⟨z7, z8, z0, z1, z2, z3, z4, z5, z6⟩ := h
  refine ⟨?_, ?_, fun q hq => ?_, fun q hq => ?_, fun q hq => ?_, fun q hq => ?_, fun q hq => ?_, fun q hq => ?_, fun q i hq hi => ?_⟩
  · rw [gI_sA, up_n _ _ (by omega)]; exact z7
  · rw [gI_sA, up_n _ _ (by omega)]; exact z8
  · rw [gA_sAn _ _ _ (by omega), up_n _ _ (by omega)]; exact z0 q hq
  · rw [gA_sAn _ _ _ (by omega), up_n _ _ (by omega)]; exact z1 q hq
  · rw [gA_sAn _ _ _ (by omega), up_n _ _ (by omega)]; exact z2 q hq
  · rw [gA_sAn _ _ _ (by omega), up_n _ _ (by omega)]; exact z3 q hq
  · by_cases e : q = r
    · subst e; rw [gA_sAs, up_s]
    · rw [gA_sAi _ _ _ e, up_n _ _ (by omega)]; exact z4 q hq
  · rw [gA_sAn _ _ _ (by omega), up_n _ _ (by omega)]; exact z5 q hq
  · rw [gA_sAn _ _ _ (by omega), up_n _ _ (by omega)]; exact z6 q i hq hi
theorem ZS_A5 {z : Rec} {d : Nat → Nat} (h : ZS z d) {r v : Nat} (hr : r < 12) : ZS (sA z 5 r (nI v)) (va_up d (74 + r) v) := by
  obtain ⟨z7, z8, z0, z1, z2, z3, z4, z5, z6⟩ := h
  refine ⟨?_, ?_, fun q hq => ?_, fun q hq => ?_, fun q hq => ?_, fun q hq => ?_, fun q hq => ?_, fun q hq => ?_, fun q i hq hi => ?_⟩
  · rw [gI_sA, up_n _ _ (by omega)]; exact z7
  · rw [gI_sA, up_n _ _ (by omega)]; exact z8
  · rw [gA_sAn _ _ _ (by omega), up_n _ _ (by omega)]; exact z0 q hq
  · rw [gA_sAn _ _ _ (by omega), up_n _ _ (by omega)]; exact z1 q hq
  · rw [gA_sAn _ _ _ (by omega), up_n _ _ (by omega)]; exact z2 q hq
  · rw [gA_sAn _ _ _ (by omega), up_n _ _ (by omega)]; exact z3 q hq
  · rw [gA_sAn _ _ _ (by omega), up_n _ _ (by omega)]; exact z4 q hq
  · by_cases e : q = r
    · subst e; rw [gA_sAs, up_s]
    · rw [gA_sAi _ _ _ e, up_n _ _ (by omega)]; exact z5 q hq
  · rw [gA_sAn _ _ _ (by omega), up_n _ _ (by omega)]; exact z6 q i hq hi
theorem ZS_L {z : Rec} {d : Nat → Nat} (h : ZS z d) {r j v : Nat} (hr : r < 6) (hj : j < 12) : ZS (sA z 6 (12 * r + j) (lf v)) (va_up d (86 + 12 * r + j) v) := by
  obtain ⟨z7, z8, z0, z1, z2, z3, z4, z5, z6⟩ := h
  refine ⟨?_, ?_, fun q hq => ?_, fun q hq => ?_, fun q hq => ?_, fun q hq => ?_, fun q hq => ?_, fun q hq => ?_, fun q i hq hi => ?_⟩
  · rw [gI_sA, up_n _ _ (by omega)]; exact z7
  · rw [gI_sA, up_n _ _ (by omega)]; exact z8
  · rw [gA_sAn _ _ _ (by omega), up_n _ _ (by omega)]; exact z0 q hq
  · rw [gA_sAn _ _ _ (by omega), up_n _ _ (by omega)]; exact z1 q hq
  · rw [gA_sAn _ _ _ (by omega), up_n _ _ (by omega)]; exact z2 q hq
  · rw [gA_sAn _ _ _ (by omega), up_n _ _ (by omega)]; exact z3 q hq
  · rw [gA_sAn _ _ _ (by omega), up_n _ _ (by omega)]; exact z4 q hq
  · rw [gA_sAn _ _ _ (by omega), up_n _ _ (by omega)]; exact z5 q hq
  · by_cases e : 12 * q + i = 12 * r + j
    · have e1 : q = r := by omega
      have e2 : i = j := by omega
      subst e1; subst e2; rw [gA_sAs, up_s]
    · rw [gA_sAi _ _ _ e, up_n _ _ (by omega)]; exact z6 q i hq hi
theorem ZS_ext {z : Rec} {d d' : Nat → Nat} (h : ZS z d) (hd : ∀ k, 24 ≤ k → k < 158 → d' k = d k) : ZS z d' := by
  obtain ⟨z7, z8, z0, z1, z2, z3, z4, z5, z6⟩ := h
  refine ⟨?_, ?_, fun q hq => ?_, fun q hq => ?_, fun q hq => ?_, fun q hq => ?_, fun q hq => ?_, fun q hq => ?_, fun q i hq hi => ?_⟩
  · rw [hd _ (by omega) (by omega)]; exact z7
  · rw [hd _ (by omega) (by omega)]; exact z8
  · rw [hd _ (by omega) (by omega)]; exact z0 q hq
  · rw [hd _ (by omega) (by omega)]; exact z1 q hq
  · rw [hd _ (by omega) (by omega)]; exact z2 q hq
  · rw [hd _ (by omega) (by omega)]; exact z3 q hq
  · rw [hd _ (by omega) (by omega)]; exact z4 q hq
  · rw [hd _ (by omega) (by omega)]; exact z5 q hq
  · rw [hd _ (by omega) (by omega)]; exact z6 q i hq hi
theorem ZS_seed {z : Rec} {d : Nat → Nat} (h : ZS z d) (v : Int32) : ZS (sI z 9 v) d := by
  obtain ⟨z7, z8, z0, z1, z2, z3, z4, z5, z6⟩ := h
  exact ⟨by rw [gI_sIn _ _ (by omega)]; exact z7, by rw [gI_sIn _ _ (by omega)]; exact z8, z0, z1, z2, z3, z4, z5, z6⟩
theorem HS_ext {e : Rec} {d d' : Nat → Nat} (h : HS e d) (hd : ∀ k, k < 24 → d' k = d k) : HS e d' := by
  obtain ⟨e7, e8, e9, e10, e11, e12, e13, e4, e5, e6⟩ := h
  refine ⟨?_, ?_, ?_, ?_, ?_, ?_, ?_, fun q hq => ?_, fun q hq => ?_, fun q hq => ?_⟩
  · rw [hd _ (by omega)]; exact e7
  · rw [hd _ (by omega)]; exact e8
  · rw [hd _ (by omega)]; exact e9
  · rw [hd _ (by omega)]; exact e10
  · rw [hd _ (by omega)]; exact e11
  · rw [hd _ (by omega)]; exact e12
  · rw [hd _ (by omega)]; exact e13
  · rw [hd _ (by omega)]; exact e4 q hq
  · rw [hd _ (by omega)]; exact e5 q hq
  · rw [hd _ (by omega)]; exact e6 q hq
theorem DH_ext {d d' : Nat → Nat} (h : DH d) (hd : ∀ k, k < 24 → d' k = d k) : DH d' := by
  obtain ⟨a0, a1, a2, a3, a4, a5, a6, a7, a8, a9⟩ := h
  refine ⟨?_, ?_, ?_, ?_, ?_, ?_, fun l hl => ?_, fun p hp => ?_, fun p hp => ?_, ?_⟩
  · rw [hd _ (by omega)]; exact a0
  · rw [hd _ (by omega)]; exact a1
  · rw [hd _ (by omega)]; exact a2
  · rw [hd _ (by omega)]; exact a3
  · rw [hd _ (by omega)]; exact a4
  · rw [hd _ (by omega)]; exact a5
  · rw [hd _ (by omega), hd _ (by omega)]; exact a6 l hl
  · rw [hd 1 (by omega)] at hp; rw [hd _ (by omega)]; exact a7 p hp
  · rw [hd _ (by omega)]; exact a8 p hp
  · rw [hd _ (by omega)]; exact a9
theorem up_swap {α : Type} (f : Nat → α) {j k : Nat} (v w : α) (h : j ≠ k) : va_up (va_up f j v) k w = va_up (va_up f k w) j v := by
  funext q
  by_cases h1 : q = j
  · subst h1; simp [va_up, h]
  · by_cases h2 : q = k
    · subst h2; simp [va_up, h1]
    · simp [va_up, h1, h2]
theorem sAB_a {r : Rec} {d : Nat → Nat} {k v : Nat} (h : k < 86) : sA (sB r 14 (RF d)) 14 k (nI v) = sB r 14 (RF (va_up d k v)) := by rw [sA_sB, RF_up (Or.inl h)]
theorem sAB_z {r : Rec} {d : Nat → Nat} {k v : Nat} (h : 164 ≤ k) : sA (sB r 14 (RF d)) 14 k (nI v) = sB r 14 (RF (va_up d k v)) := by rw [sA_sB, RF_up (Or.inr h)]
theorem sAB_l {r : Rec} {d : Nat → Nat} {k v : Nat} (h : 86 ≤ k) (h2 : k < 164) : sA (sB r 14 (RF d)) 14 k (lf v) = sB r 14 (RF (va_up d k v)) := by rw [sA_sB, RF_upl h h2]
theorem sAB_n {r : Rec} {d : Nat → Nat} {k v : Nat} (h : 86 ≤ k) (h2 : k < 164) : sA (sB r 14 (RF d)) 14 k (nI v) = sB r 14 (RF (va_up d k (v + 1))) := by rw [← lf_s, sAB_l h h2]
theorem sI_B (r : Rec) (j : Nat) (f : Nat → Int32) (k : Nat) (v : Int32) : sI (sB r j f) k v = sB (sI r k v) j f := rfl
/-- a day -/
def dayN (d : Nat → Nat) : Nat → (Nat → Nat)
  | 0 => d
  | n + 1 => va_up (dayN d n) (32 + n) (min 99 (d (32 + n) + 1))
theorem dayN_k (d : Nat → Nat) {k : Nat} : ∀ n, (k < 32 ∨ 32 + n ≤ k) → dayN d n k = d k := by
  intro n
  induction n with
  | zero => intro _; rfl
  | succ n ih => intro h; show va_up (dayN d n) (32 + n) _ k = _; rw [up_n _ _ (by omega), ih (by omega)]
theorem dayN_d (d : Nat → Nat) {p : Nat} : ∀ n, p < n → dayN d n (32 + p) = min 99 (d (32 + p) + 1) := by
  intro n
  induction n with
  | zero => intro h; omega
  | succ n ih =>
    intro h
    show va_up (dayN d n) (32 + n) _ (32 + p) = _
    by_cases e : p = n
    · subst e; rw [up_s]
    · rw [up_n _ _ (by omega), ih (by omega)]
def oneD (d : Nat → Nat) : Nat → Nat := va_up (dayN d (d 1)) 24 (d 24 + 1)
theorem oneD_k (d : Nat → Nat) {k : Nat} (h1 : d 1 ≤ 6) (h2 : k ≠ 24) (h3 : k < 32 ∨ 38 ≤ k) : oneD d k = d k := by
  unfold oneD; rw [up_n _ _ h2, dayN_k _ _ (by omega)]
theorem m_least_v (a b : Nat) (ha : a < 2 ^ 31) (hb : b < 2 ^ 31) : m_least (nI a) (nI b) = some (nI (min a b)) := by
  unfold m_least
  by_cases h : b ≤ a
  · rw [if_pos (nI_le h ha), Nat.min_eq_right h]
  · rw [if_neg (nI_ge (by omega) hb), Nat.min_eq_left (by omega)]
theorem m_oneDay_v (s : Rec) {d : Nat → Nat} (hd : DI d) : m_oneDay (sB s 14 (RF d)) = some (sB s 14 (RF (oneD d))) := by
  have h1 := hd.N
  have h2 := hd.day
  unfold m_oneDay
  refine LP2_run (fun i => nI i) (fun i => sB s 14 (RF (dayN d i))) 0 (d 1) (by omega) rfl rfl (fun i _ hi rec => ?_) (fun rec => ?_)
  · have h4 := hd.dust (p := i) (by omega)
    have e1 : dayN d i 1 = d 1 := dayN_k _ _ (by omega)
    have e2 : dayN d i (32 + i) = d (32 + i) := dayN_k _ _ (by omega)
    simp (disch := omega) only [Nat.zero_add, LT, BD_some, BD2_some, JN1, JN2, IX_nI, nI_add, pk_mul, pk_sub, leT, leF, ltT, ltF, eqT, eqF, M1_lit, bI_true, bI_false, BZ_n0, BZ_n1, BZ_b, ↓reduceIte, l_0, l_1, l_2, l_3, l_4, l_5, l_6, l_7, l_8, l_9, l_10, l_11, l_12, l_13, l_14, l_15, l_16, l_17, l_18, l_19, l_20, l_21, l_22, l_23, l_24, l_25, l_26, l_27, l_28, l_29, l_30, l_31, l_32, l_33, l_34, l_35, l_36, l_37, l_38, l_39, l_40, l_41, l_42, l_43, l_44, l_45, l_46, l_47, l_48, l_49, l_50, l_51, l_52, l_53, l_54, l_55, l_56, l_57, l_58, l_59, l_60, l_61, l_62, l_63, l_64, l_72, l_74, l_86, l_97, l_99, l_100, l_122, l_140, l_158, l_160, l_164, l_200, l_240, l_255, l_400, l_406, l_900, l_940, l_980, l_999, l_1120, l_1000, l_100000, gA_sBs, RF_a, e1, e2, m_least_v, sAB_a]
    rfl
  · have e1 : dayN d (d 1) 1 = d 1 := dayN_k _ _ (by omega)
    have e2 : dayN d (d 1) 24 = d 24 := dayN_k _ _ (by omega)
    simp (disch := omega) only [Nat.zero_add, LT, BD_some, BD2_some, JN1, JN2, IX_nI, nI_add, pk_mul, pk_sub, leT, leF, ltT, ltF, eqT, eqF, M1_lit, bI_true, bI_false, BZ_n0, BZ_n1, BZ_b, ↓reduceIte, l_0, l_1, l_2, l_3, l_4, l_5, l_6, l_7, l_8, l_9, l_10, l_11, l_12, l_13, l_14, l_15, l_16, l_17, l_18, l_19, l_20, l_21, l_22, l_23, l_24, l_25, l_26, l_27, l_28, l_29, l_30, l_31, l_32, l_33, l_34, l_35, l_36, l_37, l_38, l_39, l_40, l_41, l_42, l_43, l_44, l_45, l_46, l_47, l_48, l_49, l_50, l_51, l_52, l_53, l_54, l_55, l_56, l_57, l_58, l_59, l_60, l_61, l_62, l_63, l_64, l_72, l_74, l_86, l_97, l_99, l_100, l_122, l_140, l_158, l_160, l_164, l_200, l_240, l_255, l_400, l_406, l_900, l_940, l_980, l_999, l_1120, l_1000, l_100000, gA_sBs, RF_a, e1, e2, sAB_a]
    rfl
theorem x4_goOn_v {e z : Rec} {d : Nat → Nat} (he : HS e d) (hz : ZS z d) (hd : DI d) : ∃ z', x4_goOn z e = some z' ∧ ZS z' (oneD d) ∧ gI z' 9 = gI z 9 := by
  have h1 := hd.N
  have h2 := hd.day
  have e8 := he.2.1
  unfold x4_goOn
  refine LP2_inv (fun i v y => v = nI i ∧ ZS y (dayN d i) ∧ gI y 9 = gI z 9) (fun o => ∃ z', o = some z' ∧ ZS z' (oneD d) ∧ gI z' 9 = gI z 9) (d 1) (by omega) ⟨rfl, hz, rfl⟩ (fun i v y rec hi hI => Or.inl ?_) (fun v y rec hI => ?_)
  · obtain ⟨rfl, hy, hy9⟩ := hI
    have h4 := hd.dust (p := i) (by omega)
    have e2 : dayN d i (32 + i) = d (32 + i) := dayN_k _ _ (by omega)
    have y1 := hy.2.2.2.1 i (by omega)
    rw [e2] at y1
    refine ⟨nI (i + 1), sA y 1 i (nI (min 99 (d (32 + i) + 1))), ⟨rfl, ZS_A1 hy (by omega), hy9⟩, ?_⟩
    have e3 : (if nI (d (32 + i) + 1) < nI 99 then nI (d (32 + i) + 1) else nI 99) = nI (min 99 (d (32 + i) + 1)) := by
      by_cases h : d (32 + i) + 1 < 99
      · rw [if_pos (nI_lt h (by omega)), Nat.min_eq_right (by omega)]
      · rw [if_neg (nI_nlt (by omega) (by omega)), Nat.min_eq_left (by omega)]
    simp (disch := omega) only [Nat.zero_add, LT, BD_some, BD2_some, JN1, JN2, IX_nI, nI_add, pk_mul, pk_sub, leT, leF, ltT, ltF, eqT, eqF, M1_lit, bI_true, bI_false, BZ_n0, BZ_n1, BZ_b, ↓reduceIte, l_0, l_1, l_2, l_3, l_4, l_5, l_6, l_7, l_8, l_9, l_10, l_11, l_12, l_13, l_14, l_15, l_16, l_17, l_18, l_19, l_20, l_21, l_22, l_23, l_24, l_25, l_26, l_27, l_28, l_29, l_30, l_31, l_32, l_33, l_34, l_35, l_36, l_37, l_38, l_39, l_40, l_41, l_42, l_43, l_44, l_45, l_46, l_47, l_48, l_49, l_50, l_51, l_52, l_53, l_54, l_55, l_56, l_57, l_58, l_59, l_60, l_61, l_62, l_63, l_64, l_72, l_74, l_86, l_97, l_99, l_100, l_122, l_140, l_158, l_160, l_164, l_200, l_240, l_255, l_400, l_406, l_900, l_940, l_980, l_999, l_1120, l_1000, l_100000, e8, y1, e3]
  · obtain ⟨rfl, hy, hy9⟩ := hI
    have e2 : dayN d (d 1) 24 = d 24 := dayN_k _ _ (by omega)
    have y7 := hy.1
    rw [e2] at y7
    refine ⟨sI y 7 (nI (d 24 + 1)), ?_, ZS_I7 hy, by rw [gI_sIn _ _ (by omega)]; exact hy9⟩
    simp (disch := omega) only [Nat.zero_add, LT, BD_some, BD2_some, JN1, JN2, IX_nI, nI_add, pk_mul, pk_sub, leT, leF, ltT, ltF, eqT, eqF, M1_lit, bI_true, bI_false, BZ_n0, BZ_n1, BZ_b, ↓reduceIte, l_0, l_1, l_2, l_3, l_4, l_5, l_6, l_7, l_8, l_9, l_10, l_11, l_12, l_13, l_14, l_15, l_16, l_17, l_18, l_19, l_20, l_21, l_22, l_23, l_24, l_25, l_26, l_27, l_28, l_29, l_30, l_31, l_32, l_33, l_34, l_35, l_36, l_37, l_38, l_39, l_40, l_41, l_42, l_43, l_44, l_45, l_46, l_47, l_48, l_49, l_50, l_51, l_52, l_53, l_54, l_55, l_56, l_57, l_58, l_59, l_60, l_61, l_62, l_63, l_64, l_72, l_74, l_86, l_97, l_99, l_100, l_122, l_140, l_158, l_160, l_164, l_200, l_240, l_255, l_400, l_406, l_900, l_940, l_980, l_999, l_1120, l_1000, l_100000, e8, y7]
theorem oneD_DI {d : Nat → Nat} (hd : DI d) (h : d 24 < 400) : DI (oneD d) := by
  have h1 := hd.N
  have a0 : oneD d 0 = d 0 := oneD_k _ h1 (by omega) (by omega)
  have a1 : oneD d 1 = d 1 := oneD_k _ h1 (by omega) (by omega)
  refine ⟨DH_ext hd.1 (fun k hk => oneD_k _ h1 (by omega) (by omega)), ?_, ?_, fun p hp => ?_, fun p hp => ?_, fun i hi => ?_, fun p i hp hi => ?_, fun p hp => ?_⟩
  · unfold oneD; rw [up_s]; omega
  · rw [oneD_k _ h1 (by omega) (by omega)]; exact hd.acts
  · rw [a1] at hp; rw [oneD_k _ h1 (by omega) (by omega), a0]; exact hd.pl hp
  · unfold oneD
    rw [up_n _ _ (by omega)]
    by_cases h : p < d 1
    · rw [dayN_d _ _ h]; omega
    · rw [dayN_k _ _ (by omega)]; exact hd.dust hp
  · rw [oneD_k _ h1 (by omega) (by omega)]; exact hd.since hi
  · rw [oneD_k _ h1 (by omega) (by omega)]; exact hd.leaf hp hi
  · rw [oneD_k _ h1 (by omega) (by omega)]; exact hd.late hp
theorem DT_ext {d d' : Nat → Nat} (h : DT d) (h25 : d' 25 = d 25) (hk : ∀ k, 74 ≤ k → k < 164 → d' k = d k) (h12 : d 25 ≤ 12) : DT d' := by
  obtain ⟨a1, a2, a3, a4⟩ := h
  refine ⟨fun p i hp hi => ?_, fun p i hp hi hA => ?_, fun p i hp hi hA => ?_, fun p hp => ?_⟩
  · rw [hk _ (by omega) (by omega), h25]; exact a1 p i hp hi
  · rw [h25] at hA; rw [hk _ (by omega) (by omega)]; exact a2 p i hp hi hA
  · rw [h25] at hi; rw [hk _ (by omega) (by omega)] at hA; rw [hk _ (by omega) (by omega), hk _ (by omega) (by omega)]; exact a3 p i hp hi hA
  · rw [hk _ (by omega) (by omega), h25, a4 p hp]; exact mxN_congr (fun i hi => (hk _ (by omega) (by omega)).symm)
theorem oneD_DT {d : Nat → Nat} (hd : DI d) (h : DT d) : DT (oneD d) := DT_ext h (oneD_k _ hd.N (by omega) (by omega)) (fun k h1 h2 => oneD_k _ hd.N (by omega) (by omega)) hd.acts
/-- a deed is done -/
def doN (d : Nat → Nat) (l : Nat) : Nat → (Nat → Nat)
  | 0 => d
  | n + 1 => if (sees d n 0).testBit l = true then va_up (va_up (doN d l n) (158 + n) (nxt d n + 1)) (86 + 12 * n + d 25) (nxt d n + 1) else doN d l n
theorem doN_t {d : Nat → Nat} {l n : Nat} (h : (sees d n 0).testBit l = true) : doN d l (n + 1) = va_up (va_up (doN d l n) (158 + n) (nxt d n + 1)) (86 + 12 * n + d 25) (nxt d n + 1) := by show (if _ then _ else _) = _; rw [if_pos h]
theorem doN_f {d : Nat → Nat} {l n : Nat} (h : (sees d n 0).testBit l = false) : doN d l (n + 1) = doN d l n := by show (if _ then _ else _) = _; rw [if_neg (by simp [h])]
theorem doN_k {d : Nat → Nat} (hA : d 25 < 12) {l k : Nat} : ∀ n, n ≤ 6 → (k < 86 ∨ 164 ≤ k) → doN d l n k = d k := by
  intro n
  induction n with
  | zero => intro _ _; rfl
  | succ n ih =>
    intro hn h
    cases hh : (sees d n 0).testBit l
    · rw [doN_f hh, ih (by omega) h]
    · rw [doN_t hh, up_n _ _ (by omega), up_n _ _ (by omega), ih (by omega) h]
theorem doN_late {d : Nat → Nat} (hA : d 25 < 12) {l p : Nat} (hp : p < 6) : ∀ n, n ≤ 6 → doN d l n (158 + p) = if p < n ∧ (sees d p 0).testBit l = true then nxt d p + 1 else d (158 + p) := by
  intro n
  induction n with
  | zero => intro _; rw [if_neg (by omega)]; rfl
  | succ n ih =>
    intro hn
    cases hh : (sees d n 0).testBit l
    · rw [doN_f hh, ih (by omega)]
      by_cases e : p = n
      · subst e; rw [if_neg (by omega), if_neg (by simp [hh])]
      · by_cases c : p < n ∧ (sees d p 0).testBit l = true
        · rw [if_pos c, if_pos ⟨by omega, c.2⟩]
        · rw [if_neg c, if_neg (fun h => c ⟨by omega, h.2⟩)]
    · rw [doN_t hh, up_n _ _ (by omega)]
      by_cases e : p = n
      · subst e; rw [up_s, if_pos ⟨by omega, hh⟩]
      · rw [up_n _ _ (by omega), ih (by omega)]
        by_cases c : p < n ∧ (sees d p 0).testBit l = true
        · rw [if_pos c, if_pos ⟨by omega, c.2⟩]
        · rw [if_neg c, if_neg (fun h => c ⟨by omega, h.2⟩)]
theorem doN_leaf {d : Nat → Nat} (hA : d 25 < 12) {l p i : Nat} (hp : p < 6) (hi : i < 12) : ∀ n, n ≤ 6 → doN d l n (86 + 12 * p + i) = if (p < n ∧ i = d 25) ∧ (sees d p 0).testBit l = true then nxt d p + 1 else d (86 + 12 * p + i) := by
  intro n
  induction n with
  | zero => intro _; rw [if_neg (by omega)]; rfl
  | succ n ih =>
    intro hn
    cases hh : (sees d n 0).testBit l
    · rw [doN_f hh, ih (by omega)]
      by_cases e : p = n
      · subst e; rw [if_neg (by omega), if_neg (by simp [hh])]
      · by_cases c : (p < n ∧ i = d 25) ∧ (sees d p 0).testBit l = true
        · rw [if_pos c, if_pos ⟨⟨by omega, c.1.2⟩, c.2⟩]
        · rw [if_neg c, if_neg (fun h => c ⟨⟨by omega, h.1.2⟩, h.2⟩)]
    · rw [doN_t hh]
      by_cases e : p = n ∧ i = d 25
      · obtain ⟨rfl, rfl⟩ := e; rw [up_s, if_pos ⟨⟨by omega, rfl⟩, hh⟩]
      · rw [up_n _ _ (by omega), up_n _ _ (by omega), ih (by omega)]
        by_cases c : (p < n ∧ i = d 25) ∧ (sees d p 0).testBit l = true
        · rw [if_pos c, if_pos ⟨⟨by omega, c.1.2⟩, c.2⟩]
        · rw [if_neg c, if_neg (fun h => c ⟨⟨by omega, h.1.2⟩, h.2⟩)]
theorem sees_ext {d d' : Nat → Nat} {p k : Nat} (h : ∀ k, k < 38 → k ≠ 24 → k ≠ 25 → d' k = d k) (hp : p < 6) (hl : d (26 + p) < 5) : sees d' p k = sees d p k := by
  unfold sees
  rw [h 23 (by omega) (by omega) (by omega), h (32 + p) (by omega) (by omega) (by omega), h 4 (by omega) (by omega) (by omega), h (26 + p) (by omega) (by omega) (by omega), h (6 + d (26 + p)) (by omega) (by omega) (by omega)]
theorem nxt_ext {d d' : Nat → Nat} {p : Nat} (h1 : d' 24 = d 24) (h2 : d' (158 + p) = d (158 + p)) (h3 : d' (17 + p) = d (17 + p)) : nxt d' p = nxt d p := by
  unfold nxt; rw [h1, h2, h3]
theorem nxt_le {d : Nat → Nat} (hd : DI d) {p : Nat} (hp : p < 6) (h : d (158 + p) ≤ 509) : nxt d p + 1 ≤ 520 := by
  have h2 := hd.day
  have h3 := hd.slow hp
  unfold nxt
  split <;> omega
theorem doN_DI {d : Nat → Nat} (hd : DI d) (hA : d 25 < 12) (hl : ∀ p, p < 6 → d (158 + p) ≤ 509) {l n : Nat} (hn : n ≤ 6) : DI (doN d l n) := by
  have k : ∀ k, k < 86 → doN d l n k = d k := fun k hk => doN_k hA n hn (Or.inl hk)
  refine ⟨DH_ext hd.1 (fun j hj => k j (by omega)), ?_, ?_, fun p hp => ?_, fun p hp => ?_, fun i hi => ?_, fun p i hp hi => ?_, fun p hp => ?_⟩
  · rw [k _ (by omega)]; exact hd.day
  · rw [k _ (by omega)]; exact hd.acts
  · have := hd.N
    rw [k _ (by omega)] at hp; rw [k _ (by omega), k _ (by omega)]; exact hd.pl hp
  · rw [k _ (by omega)]; exact hd.dust hp
  · rw [k _ (by omega)]; exact hd.since hi
  · rw [doN_leaf hA hp hi n hn]
    split
    · have := nxt_le hd hp (hl p hp); omega
    · exact hd.leaf hp hi
  · rw [doN_late hA hp n hn]
    split
    · have := nxt_le hd hp (hl p hp); omega
    · exact hd.late hp
/-- what was done is laid down first -/
def doA (d : Nat → Nat) (w t l : Nat) : Nat → Nat := va_up (va_up (va_up (va_up d (38 + d 25) w) (50 + d 25) t) (62 + d 25) l) (74 + d 25) (d 24)
theorem doA_k {d : Nat → Nat} {w t l k : Nat} (hA : d 25 < 12) (h : k < 38 ∨ 86 ≤ k) : doA d w t l k = d k := by
  unfold doA
  rw [up_n _ _ (by omega), up_n _ _ (by omega), up_n _ _ (by omega), up_n _ _ (by omega)]
theorem doA_s {d : Nat → Nat} {w t l i : Nat} (hA : d 25 < 12) (hi : i < 12) : doA d w t l (74 + i) = if i = d 25 then d 24 else d (74 + i) := by
  unfold doA
  by_cases e : i = d 25
  · subst e; rw [up_s, if_pos rfl]
  · rw [up_n _ _ (by omega), up_n _ _ (by omega), up_n _ _ (by omega), up_n _ _ (by omega), if_neg e]
theorem doA_DI {d : Nat → Nat} (hd : DI d) (hA : d 25 < 12) (w t l : Nat) : DI (doA d w t l) := by
  have k : ∀ k, (k < 38 ∨ 86 ≤ k) → doA d w t l k = d k := fun k hk => doA_k hA hk
  refine ⟨DH_ext hd.1 (fun j hj => k j (by omega)), ?_, ?_, fun p hp => ?_, fun p hp => ?_, fun i hi => ?_, fun p i hp hi => ?_, fun p hp => ?_⟩
  · rw [k _ (by omega)]; exact hd.day
  · rw [k _ (by omega)]; exact hd.acts
  · have := hd.N
    rw [k _ (by omega)] at hp; rw [k _ (by omega), k _ (by omega)]; exact hd.pl hp
  · rw [k _ (by omega)]; exact hd.dust hp
  · rw [doA_s hA hi]
    split
    · exact hd.day
    · exact hd.since hi
  · rw [k _ (by omega)]; exact hd.leaf hp hi
  · rw [k _ (by omega)]; exact hd.late hp
def doD (d : Nat → Nat) (w t l : Nat) : Nat → Nat := va_up (doN (doA d w t l) l (d 1)) 25 (d 25 + 1)
theorem DI_25 {d : Nat → Nat} (hd : DI d) {v : Nat} (h : v ≤ 12) : DI (va_up d 25 v) := by
  have k : ∀ k, k ≠ 25 → va_up d 25 v k = d k := fun k hk => up_n _ _ hk
  refine ⟨DH_ext hd.1 (fun j hj => k j (by omega)), ?_, ?_, fun p hp => ?_, fun p hp => ?_, fun i hi => ?_, fun p i hp hi => ?_, fun p hp => ?_⟩
  · rw [k _ (by omega)]; exact hd.day
  · rw [up_s]; exact h
  · rw [k _ (by omega)] at hp; rw [k _ (by omega), k _ (by omega)]; exact hd.pl hp
  · rw [k _ (by omega)]; exact hd.dust hp
  · rw [k _ (by omega)]; exact hd.since hi
  · rw [k _ (by omega)]; exact hd.leaf hp hi
  · rw [k _ (by omega)]; exact hd.late hp
theorem DT.lateb {d : Nat → Nat} (h : DT d) (h12 : d 25 ≤ 12) {p : Nat} (hp : p < 6) : d (158 + p) ≤ 401 + 9 * d 25 := by
  rw [h.2.2.2 p hp]
  exact mxN_le (fun i hi => h.1 p i hp (by omega))
theorem DT_doA {d : Nat → Nat} (h : DT d) (hA : d 25 < 12) (w t l : Nat) : DT (doA d w t l) := by
  have k : ∀ k, (k < 38 ∨ 86 ≤ k) → doA d w t l k = d k := fun k hk => doA_k hA hk
  obtain ⟨a1, a2, a3, a4⟩ := h
  refine ⟨fun p i hp hi => ?_, fun p i hp hi hB => ?_, fun p i hp hi hB => ?_, fun p hp => ?_⟩
  · rw [k _ (by omega), k 25 (by omega)]; exact a1 p i hp hi
  · rw [k 25 (by omega)] at hB; rw [k _ (by omega)]; exact a2 p i hp hi hB
  · rw [k 25 (by omega)] at hi; rw [k _ (by omega)] at hB; rw [k (86 + 12 * p + i) (by omega), doA_s hA (by omega), if_neg (by omega)]; exact a3 p i hp hi hB
  · rw [k _ (by omega), k 25 (by omega), a4 p hp]; exact mxN_congr (fun i hi => (k _ (by omega)).symm)
theorem doD_DI {d : Nat → Nat} (hd : DI d) (ht : DT d) (hA : d 25 < 12) (w t l : Nat) : DI (doD d w t l) := by
  have hN := hd.N
  refine DI_25 (doN_DI (doA_DI hd hA w t l) (by rw [doA_k hA (by omega)]; exact hA) (fun p hp => ?_) hN) (by omega)
  rw [doA_k hA (by omega)]
  have := ht.lateb (by omega) hp
  omega
theorem doD_DT {d : Nat → Nat} (hd : DI d) (ht : DT d) (hA : d 25 < 12) (w t l : Nat) : DT (doD d w t l) := by
  have hN := hd.N
  have ha := DT_doA ht hA w t l
  have hda := doA_DI hd hA w t l
  have b25 : doA d w t l 25 = d 25 := doA_k hA (by omega)
  have b24 : doA d w t l 24 = d 24 := doA_k hA (by omega)
  have hA' : doA d w t l 25 < 12 := by rw [b25]; exact hA
  have c25 : doD d w t l 25 = d 25 + 1 := up_s _ _ _
  have cl : ∀ p i, p < 6 → i < 12 → doD d w t l (86 + 12 * p + i) = if (p < d 1 ∧ i = d 25) ∧ (sees (doA d w t l) p 0).testBit l = true then nxt (doA d w t l) p + 1 else d (86 + 12 * p + i) := by
    intro p i hp hi
    unfold doD
    rw [up_n _ _ (by omega), doN_leaf hA' hp hi _ hN, b25, doA_k hA (k := 86 + 12 * p + i) (by omega)]
  have ct : ∀ p, p < 6 → doD d w t l (158 + p) = if p < d 1 ∧ (sees (doA d w t l) p 0).testBit l = true then nxt (doA d w t l) p + 1 else d (158 + p) := by
    intro p hp
    unfold doD
    rw [up_n _ _ (by omega), doN_late hA' hp _ hN, doA_k hA (k := 158 + p) (by omega)]
  have cs : ∀ i, i < 12 → doD d w t l (74 + i) = if i = d 25 then d 24 else d (74 + i) := by
    intro i hi
    unfold doD
    rw [up_n _ _ (by omega), doN_k hA' _ hN (by omega), doA_s hA hi]
  have nx : ∀ p, p < 6 → d (158 + p) ≤ nxt (doA d w t l) p + 1 ∧ nxt (doA d w t l) p + 1 ≤ 401 + 9 * (d 25 + 1) ∧ (p < d 1 → d 24 + 1 < nxt (doA d w t l) p + 1) := by
    intro p hp
    have e : nxt (doA d w t l) p = nxt d p := nxt_ext b24 (doA_k hA (by omega)) (doA_k hA (by omega))
    have h1 := ht.lateb (by omega) hp
    have h2 := hd.day
    have h3 := hd.slow hp
    have h4 : p < d 1 → 1 ≤ d (17 + p) := fun h => hd.slow1 h
    rw [e]
    unfold nxt
    refine ⟨?_, ?_, fun h => ?_⟩
    · split <;> omega
    · split <;> omega
    · have := h4 h
      split <;> omega
  obtain ⟨a1, a2, a3, a4⟩ := ht
  refine ⟨fun p i hp hi => ?_, fun p i hp hi hB => ?_, fun p i hp hi hB => ?_, fun p hp => ?_⟩
  · rw [cl p i hp hi, c25]
    split
    · exact (nx p hp).2.1
    · have := a1 p i hp hi; omega
  · rw [c25] at hB
    rw [cl p i hp hi, if_neg (by omega)]
    exact a2 p i hp hi (by omega)
  · rw [c25] at hi
    rw [cl p i hp (by omega)] at hB ⊢
    rw [cs i (by omega)]
    by_cases c : (p < d 1 ∧ i = d 25) ∧ (sees (doA d w t l) p 0).testBit l = true
    · rw [if_pos c, if_pos c.1.2]; exact (nx p hp).2.2 c.1.1
    · rw [if_neg c] at hB ⊢
      by_cases e : i = d 25
      · exact absurd (a2 p i hp (by omega) (by omega)) hB
      · rw [if_neg e]; exact a3 p i hp (by omega) hB
  · have hm : mxN (fun i => doD d w t l (86 + 12 * p + i)) (d 25) = d (158 + p) := by
      rw [a4 p hp]
      exact mxN_congr (fun i hi => by rw [cl p i hp (by omega), if_neg (by omega)])
    rw [c25, mxN_s, hm, ct p hp, cl p (d 25) hp hA]
    have h0 := a2 p (d 25) hp hA (Nat.le_refl _)
    have h1 := (nx p hp).1
    by_cases c : p < d 1 ∧ (sees (doA d w t l) p 0).testBit l = true
    · rw [if_pos c, if_pos ⟨⟨c.1, rfl⟩, c.2⟩]; omega
    · rw [if_neg c, if_neg (fun h => c ⟨h.1.1, h.2⟩), h0]; omega
