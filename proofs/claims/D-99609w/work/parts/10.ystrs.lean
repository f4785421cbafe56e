/-! TEXTS: String.length and charAt over any text that lies in cells (the constants, a number's digits) -/
set_option maxRecDepth 100000
/-- a text of one byte a letter: the object at q, its bytes at v -/
def SA (g : Gh) (G : Wd) (q v N : Nat) (f : Nat → Int32) : Prop := ∀ H : Heap, GW g G H → ∀ (U : State) (A9 : Array Value), ST g U → (∀ w ∈ lw_all, w.before A9 U = true) → va_O "java/lang/String" q (fun _ => False) U H ∧ va_OF "java/lang/String" "coder" "B" (.int 0) q (fun _ => False) U H ∧ va_OF "java/lang/String" "value" "[B" (.ref v) q (fun _ => False) U H ∧ va_T .byte v N (fun j => .int (f j)) (fun _ => False) U H
def chr (x : Int32) : Int32 := ((x &&& 255).toUInt32 % 65536).toInt32
theorem chr_le (x : Int32) : ((x &&& 255).toUInt32 % 65536).toNat ≤ 255 := by
  rw [UInt32.toNat_mod]
  refine Nat.le_trans (Nat.mod_le _ _) ?_
  have e : (x &&& 255).toUInt32 = x.toUInt32 &&& 255 := rfl
  rw [e, UInt32.toNat_and]
  exact Nat.and_le_right
theorem u32_toInt (u : UInt32) (h : u.toNat ≤ 255) : u.toInt32.toInt = (u.toNat : Int) := by
  have h2 : 2 * u.toBitVec.toNat < 2 ^ 32 := by
    have : u.toBitVec.toNat = u.toNat := rfl
    omega
  exact BitVec.toInt_eq_toNat_of_lt h2
theorem chr_toInt (x : Int32) : (chr x).toInt = (((x &&& 255).toUInt32 % 65536).toNat : Int) := u32_toInt _ (chr_le x)
theorem chr_nar (x : Int32) : narrow .char (.int (chr x)) = .int (chr x) := by
  have h := chr_le x
  have e := chr_toInt x
  show Value.int ((chr x).toUInt32.toUInt16.toUInt32.toInt32) = _
  rw [lg_i2c_small (by omega) (by omega)]
section SS
variable {X : CX} {cc : ByteArray} {own : String} {ht k n : Nat} {G : Wd} {L : List (Nat × Value)} {st : List Value} {pc : Nat}
theorem pv_getO {o nm d ref : String} {index q : Nat} {v : Value} {A : Nat → Prop} (hc : OK X cc own ht) (hE : ∀ H : Heap, GW (xg X) G H → va_OF o nm d v q A (xs X) H) (hlink : Cond.fieldLink own index ref nm d ∈ lw_all) (hsame : ∀ x, (xs X).fieldFound? o nm d = some x → (xs X).fieldFound? ref nm d = some x) (dd : decode cc pc = .ok (.getfield index, 3)) (h : V X k n G L (v :: st) (pc + 3)) : V X k n G L (.ref q :: st) pc := by
  intro hk hn H locs ls hW hS hl
  obtain ⟨cf, k0, fi, f, cell, h1, h2, h3, h4, h5, h6⟩ := hE H hW
  exact W.getf hc.1 hc.2.1 hc.2.2.2.1 (hc.2.2.2.2.1 _ hlink) (hsame _ h1) h2 h3 h4 (v := v) h5 rfl rfl dd (h hk hn H locs ls hW hS hl)
theorem pv_getZ {C nm d ref : String} {index : Nat} {v : Value} (hc : OK X cc own ht) (hZ : va_Z C nm d v (fun q => gb (xg X) ≤ q) (xs X) (gH (xg X))) (hlink : Cond.fieldLink own index ref nm d ∈ lw_all) (hsame : ∀ x, (xs X).fieldFound? C nm d = some x → (xs X).fieldFound? ref nm d = some x) (dd : decode cc pc = .ok (.getstatic index, 3)) (h : V X k n G L (v :: st) (pc + 3)) : V X k n G L st pc := by
  intro hk hn H locs ls hW hS hl
  obtain ⟨cf, kf, fi, f, a, cell, h1, h2, h3, h4, h5, h6, h7, h8⟩ := hZ
  exact W.gets hc.1 hc.2.1 hc.2.2.2.1 (hc.2.2.2.2.1 _ hlink) (hsame _ h1) h2 h3 h4 (by rw [hW.2.2.1 a (Nat.not_le.mp h8)]; exact h5) (fun e => by rw [e] at h6; cases h6) h7 rfl dd (h hk hn H locs ls hW hS hl)
theorem pv_alenT {ty : FieldType} {t N : Nat} {f : Nat → Value} {A : Nat → Prop} (hc : OK X cc own ht) (hT : ∀ H : Heap, GW (xg X) G H → va_T ty t N f A (xs X) H) (dd : decode cc pc = .ok (.arraylength, 1)) (h : V X k n G L (.int (nI N) :: st) (pc + 1)) : V X k n G L (.ref t :: st) pc := by
  intro hk hn H locs ls hW hS hl
  obtain ⟨cell, h1, h2, h3, h4, h5, h6, h7⟩ := hT H hW
  exact W.alen (n := Int32.ofNat N) hc.1 hc.2.1 h1 h2 h5 rfl rfl dd (h hk hn H locs ls hW hS hl)
theorem pv_baldT {t N : Nat} {f : Nat → Int32} {A : Nat → Prop} {i : Int32} {j : Nat} (hc : OK X cc own ht) (hT : ∀ H : Heap, GW (xg X) G H → va_T .byte t N (fun j => .int (f j)) A (xs X) H) (hj : vp_in i N ∧ i.toNatClampNeg = j) (dd : decode cc pc = .ok (.baload, 1)) (h : V X k n G L (.int (f j) :: st) (pc + 1)) : V X k n G L (.int i :: .ref t :: st) pc := by
  intro hk hn H locs ls hW hS hl
  obtain ⟨hin, rfl⟩ := hj
  obtain ⟨cell, h1, h2, h3, h4, h5, h6, h7⟩ := hT H hW
  have hlt : i.toNatClampNeg < N := Nat.not_le.mp fun q => hin (Or.inr q)
  have hin' : ¬ (i < 0 ∨ cell.slots.size ≤ i.toNatClampNeg) := by
    intro q
    rcases q with q | q
    · exact hin (Or.inl q)
    · omega
  exact W.bald (v := .int (f i.toNatClampNeg)) hc.1 hc.2.1 h1 h2 h3 hin' (h6 _ hlt) rfl rfl dd (h hk hn H locs ls hW hS hl)
theorem pv_i2c {x : Int32} (hc : OK X cc own ht) (dd : decode cc pc = .ok (.i2c, 1)) (h : V X k n G L (.int ((x.toUInt32 % 65536).toInt32) :: st) (pc + 1)) : V X k n G L (.int x :: st) pc := fun hk hn H locs ls hG hS hl => lv_i2c hc.1 hc.2.1 dd rfl (h hk hn H locs ls hG hS hl)
theorem pv_tret {v : Int32} {ty : FieldType} {r : Option Value} {G1 : Wd} (hc : OK X cc own ht) (hr : (xt X).sig.returnType = some ty) (hQ : xQ X = MQ (xb X) (Qf (xg X) r G1) (xa X) (xs X) k n (fun q => gb (xg X) ≤ q)) (hz : narrow ty (.int v) = .int v) (e1 : r = some (.int v)) (e2 : G1 = G) (d : decode cc pc = .ok (.ireturn, 1)) : V X k n G L [.int v] pc := by
  intro hk hn H locs ls hW hS hl
  subst e1; subst e2
  rw [hQ]
  exact W.zret hc.1 hc.2.1 hr hz (fun t ht hW1 => ⟨rfl, by rw [ht]; exact hW⟩) hS d hc.2.2.2.2.2.2.1
/-- a virtual call on an object known by its class alone -/
theorem pv_callO {C : String} {y : MethodName} {bytes : ByteArray} {maxL hy index nA mc ms b : Nat} {ret : Option FieldType} {As T0 : List Value} {r : Option Value} {G1 : Wd} {A : Nat → Prop} (hc : OK X cc own ht) (hM : MTa (xl X) (xg X) y bytes maxL ret hy mc ms G (.ref b :: As) r G1) (hO : ∀ H : Heap, GW (xg X) G H → va_O C b A (xs X) H) (hw : GoodIn lw_all (wsV own index C y (ws_ y bytes maxL ret))) (hd : y.cls = C ∧ y.cls ≠ "java/lang/invoke/MethodHandle" ∧ y.cls ≠ "java/lang/invoke/VarHandle" ∧ (parseMethodDescriptor y.desc).map (fun d => d.parameters.length) = some nA) (hh : hy < ht ∧ maxL ≤ 45) (hn : As.length = nA) (hs : T0 = As.reverse ++ .ref b :: st) (hst : (st.map fun v => v.category).sum ≤ 8) (d : decode cc pc = .ok (.invokevirtual index, 3)) (hcap : k + mc ≤ (xR X).cells ∧ n + ms ≤ (xR X).slots) (h : V X (k + mc) (n + ms) G1 L (r.toList ++ st) (pc + 3)) : V X k n G L T0 pc := by
  refine pv_back rfl (fun H locs ls hW hl h1 h2 => ?_) hcap h
  have cw := cwV (R := xR X) nA hc.2.2.2.2.1 hw rfl (rm := { frames := hy, cells := mc, slots := ms, locals := 64 * hy }) rfl rfl hd ⟨by rw [hc.2.2.2.2.2.2.2.1]; exact hh.1, by rw [hc.2.2.2.2.2.2.2.2]; show 8 + (maxL + 11) + 64 * hy ≤ 64 * ht; omega⟩
  obtain ⟨cell, q1, q2, q3, -⟩ := hO H hW
  exact va_runV (As := As) (rest := st) ⟨hc.1, hc.2.1, hc.2.2.1, hc.2.2.2.1, hc.2.2.2.2.1⟩ hM cw ⟨blindPc _ _ _, ⟨cell, q1, q2, q3⟩, fun U hU hWm => ⟨rfl, ST.warm hWm hc.2.2.2.2.2.1, by rw [hU]; exact hW⟩⟩ rfl hn hl.1 hs (lv_room hst) d ⟨h1, h2⟩
end SS
theorem str_coder {l : Launch} {g : Gh} {G : Wd} {q v N : Nat} {f : Nat → Int32} (hY : ∀ U, gS g U → EY g U) (hA : SA g G q v N f) : MT l g yJ3_coder cJ3_coder 1 (some .byte) 1 G [.ref q] (some (.int 0)) G := by
  refine pv_start (by decide) (Nat.le_of_ble_eq_true rfl) ?_
  intro X hl hg hN hc hr _ _ _ hQ
  subst hl; subst hg
  show V X 0 0 _ [(0, .ref q)] [] 0
  refine pv_getZ hc (hY _ hc.2.2.2.2.2.1.2.2.1).1 q709 (fun _ h => h) dJ3_coder_0 ?_
  refine pv_if_eq (tgt := 13) (A := none) (B := some ()) (r := ()) hc dJ3_coder_3 (by decide) (by decide) (fun h => by cases h) (fun _ => ?_)
  refine pv_aload_n 0 hc dJ3_coder_6 rfl rfl ?_
  refine pv_getO hc (fun H hW => (hA H hW _ _ hc.2.2.2.2.2.1 hc.2.2.2.2.1).2.1) q1116 (fun _ h => h) dJ3_coder_7 ?_
  refine pv_goto (tgt := 14) hc dJ3_coder_10 (by decide) ?_
  exact pv_tret hc hr hQ rfl rfl rfl dJ3_coder_14
theorem str_isLatin1 {l : Launch} {g : Gh} {G : Wd} {q v N : Nat} {f : Nat → Int32} (hY : ∀ U, gS g U → EY g U) (hA : SA g G q v N f) : MT l g yJ3_isLatin1 cJ3_isLatin1 1 (some .boolean) 1 G [.ref q] (some (.int 1)) G := by
  refine pv_start (by decide) (Nat.le_of_ble_eq_true rfl) ?_
  intro X hl hg hN hc hr _ _ _ hQ
  subst hl; subst hg
  show V X 0 0 _ [(0, .ref q)] [] 0
  refine pv_getZ hc (hY _ hc.2.2.2.2.2.1.2.2.1).1 q709 (fun _ h => h) dJ3_isLatin1_0 ?_
  refine pv_if_eq (tgt := 17) (A := none) (B := some ()) (r := ()) hc dJ3_isLatin1_3 (by decide) (by decide) (fun h => by cases h) (fun _ => ?_)
  refine pv_aload_n 0 hc dJ3_isLatin1_6 rfl rfl ?_
  refine pv_getO hc (fun H hW => (hA H hW _ _ hc.2.2.2.2.2.1 hc.2.2.2.2.1).2.1) q1116 (fun _ h => h) dJ3_isLatin1_7 ?_
  refine pv_if_ne (tgt := 17) (A := none) (B := some ()) (r := ()) hc dJ3_isLatin1_10 (by decide) (by decide) (fun h => by cases h) (fun _ => ?_)
  refine pv_iconst (1 : Int32) hc dJ3_isLatin1_13 rfl ?_
  refine pv_goto (tgt := 18) hc dJ3_isLatin1_14 (by decide) ?_
  exact pv_tret hc hr hQ rfl rfl rfl dJ3_isLatin1_18
theorem ishr_0 (x : Int32) : x >>> ((0 : Int32) &&& 31) = x := by
  rw [show (0 : Int32) &&& 31 = 0 from rfl]
  exact Int32.shiftRight_zero
theorem str_length {l : Launch} {g : Gh} {G : Wd} {q v N : Nat} {f : Nat → Int32} (hY : ∀ U, gS g U → EY g U) (hA : SA g G q v N f) : MT l g yJ3_length cJ3_length 1 (some .int) 2 G [.ref q] (some (.int (nI N))) G := by
  refine pv_start (by decide) (Nat.le_of_ble_eq_true rfl) ?_
  intro X hl hg hN hc hr _ _ _ hQ
  subst hl; subst hg
  show V X 0 0 _ [(0, .ref q)] [] 0
  refine pv_aload_n 0 hc dJ3_length_0 rfl rfl ?_
  refine pv_getO hc (fun H hW => (hA H hW _ _ hc.2.2.2.2.2.1 hc.2.2.2.2.1).2.2.1) q1115 (fun _ h => h) dJ3_length_1 ?_
  refine pv_alenT hc (fun H hW => (hA H hW _ _ hc.2.2.2.2.2.1 hc.2.2.2.2.1).2.2.2) dJ3_length_4 ?_
  refine pv_aload_n 0 hc dJ3_length_5 rfl rfl ?_
  refine fun hk hn => pv_callO (nA := 0) hc (str_coder hY hA) (fun H hW => (hA H hW _ _ hc.2.2.2.2.2.1 hc.2.2.2.2.1).1) (lw_V q705 q706 q707 q122 q708) (by decide +kernel) ⟨by decide, by decide⟩ rfl rfl (Nat.le_of_ble_eq_true rfl) dJ3_length_6 ⟨hk, hn⟩ ?_ hk hn
  refine pv_ishr hc dJ3_length_9 ?_
  rw [ishr_0]
  exact pv_iret hc hr hQ rfl rfl dJ3_length_10
theorem pre_checkIndex {l : Launch} {g : Gh} {G : Wd} {i x : Int32} {o : Option Nat} (h0 : ¬ i < 0) (h1 : i < x) : MT l g yJ5_checkIndex cJ5_checkIndex 3 (some .int) 1 G [.int i, .int x, va_rf o] (some (.int i)) G := by
  refine pv_start (by decide) (by cases o <;> exact Nat.le_of_ble_eq_true rfl) ?_
  intro X hl hg hN hc hr _ _ _ hQ
  subst hl; subst hg
  have e9 : lv_args 0 [.int i, .int x, va_rf o] = [(0, .int i), (1, .int x), (2, va_rf o)] := by cases o <;> rfl
  rw [e9]
  refine pv_iload_n 0 hc dJ5_checkIndex_0 rfl rfl ?_
  refine pv_if_lt (tgt := 9) (A := none) (B := some ()) (r := ()) hc dJ5_checkIndex_1 (by decide) (by rw [if_neg h0]) (fun h => by cases h) (fun _ => ?_)
  refine pv_iload_n 0 hc dJ5_checkIndex_4 rfl rfl ?_
  refine pv_iload_n 1 hc dJ5_checkIndex_5 rfl rfl ?_
  refine pv_icmp_lt (tgt := 16) (A := some ()) (B := none) (r := ()) hc dJ5_checkIndex_6 (by decide) (by rw [if_pos h1]) (fun _ => ?_) (fun h => by cases h)
  refine pv_iload_n 0 hc dJ5_checkIndex_16 rfl rfl ?_
  exact pv_iret hc hr hQ rfl rfl dJ5_checkIndex_17
theorem str_checkIndex {l : Launch} {g : Gh} {G : Wd} {i x : Int32} (hY : ∀ U, gS g U → EY g U) (h0 : ¬ i < 0) (h1 : i < x) : MT l g yJ3_checkIndex cJ3_checkIndex 2 none 2 G [.int i, .int x] none G := by
  refine pv_start (by decide) (Nat.le_of_ble_eq_true rfl) ?_
  intro X hl hg hN hc hr _ _ _ hQ
  subst hl; subst hg
  show V X 0 0 _ [(0, .int i), (1, .int x)] [] 0
  obtain ⟨o, hZ⟩ := (hY _ hc.2.2.2.2.2.1.2.2.1).2.1
  refine pv_iload_n 0 hc dJ3_checkIndex_0 rfl rfl ?_
  refine pv_iload_n 1 hc dJ3_checkIndex_1 rfl rfl ?_
  refine pv_getZ hc hZ q725 (fun _ h => h) dJ3_checkIndex_2 ?_
  refine fun hk hn => pv_callS (nA := 3) (As := [.int i, .int x, va_rf o]) hc (pre_checkIndex h0 h1) (lw_S q727 q728 q124 q729) (by decide +kernel) ⟨by decide, by decide⟩ rfl rfl (Nat.le_of_ble_eq_true rfl) dJ3_checkIndex_5 ⟨hk, hn⟩ ?_ hk hn
  refine pv_pop hc dJ3_checkIndex_8 rfl ?_
  exact pv_vret hc hr hQ rfl rfl dJ3_checkIndex_9
theorem nI_lt_of {i : Int32} {N : Nat} (h : vp_in i N) (hN : N < 2 ^ 31) : ¬ i < 0 ∧ i < nI N := by
  have h0 : ¬ i < 0 := fun q => h (Or.inl q)
  have h1 : i.toNatClampNeg < N := Nat.not_le.mp fun q => h (Or.inr q)
  refine ⟨h0, ?_⟩
  have hz : (0 : Int) ≤ i.toInt := by
    have := Int32.not_lt.mp h0
    simpa using Int32.le_iff_toInt_le.mp this
  have e1 : ((i.toNatClampNeg : Nat) : Int) = i.toInt := by show ((i.toInt.toNat : Nat) : Int) = _; omega
  rw [Int32.lt_iff_toInt_lt]
  have e2 : (nI N).toInt = (N : Int) := by
    show (Int32.ofNat N).toInt = N
    exact Int32.toInt_ofNat_of_lt hN
  rw [e2]
  omega
theorem lat_charAt {l : Launch} {g : Gh} {G : Wd} {q v N j : Nat} {x : Int32} {f : Nat → Int32} (hN : N < 2 ^ 31) (hY : ∀ U, gS g U → EY g U) (hA : SA g G q v N f) (hj : vp_in x N ∧ x.toNatClampNeg = j) : MT l g yJ4_charAt cJ4_charAt 2 (some .char) 3 G [.ref v, .int x] (some (.int (chr (f j)))) G := by
  refine pv_start (by decide) (Nat.le_of_ble_eq_true rfl) ?_
  intro X hl hg hN9 hc hr _ _ _ hQ
  subst hl; subst hg
  show V X 0 0 _ [(0, .ref v), (1, .int x)] [] 0
  obtain ⟨h0, h1⟩ := nI_lt_of hj.1 hN
  refine pv_iload_n 1 hc dJ4_charAt_0 rfl rfl ?_
  refine pv_aload_n 0 hc dJ4_charAt_1 rfl rfl ?_
  refine pv_alenT hc (fun H hW => (hA H hW _ _ hc.2.2.2.2.2.1 hc.2.2.2.2.1).2.2.2) dJ4_charAt_2 ?_
  refine fun hk hn => pv_callS (nA := 2) hc (str_checkIndex hY h0 h1) (lw_S q722 q723 q122 q724) (by decide +kernel) ⟨by decide, by decide⟩ rfl rfl (Nat.le_of_ble_eq_true rfl) dJ4_charAt_3 ⟨hk, hn⟩ ?_ hk hn
  refine pv_aload_n 0 hc dJ4_charAt_6 rfl rfl ?_
  refine pv_iload_n 1 hc dJ4_charAt_7 rfl rfl ?_
  refine pv_baldT hc (fun H hW => (hA H hW _ _ hc.2.2.2.2.2.1 hc.2.2.2.2.1).2.2.2) hj dJ4_charAt_8 ?_
  refine pv_sipush (255 : Int32) hc dJ4_charAt_9 rfl ?_
  refine pv_iand hc dJ4_charAt_12 ?_
  refine pv_i2c hc dJ4_charAt_13 ?_
  refine pv_tret hc hr hQ ?_ rfl rfl dJ4_charAt_14
  exact chr_nar _
theorem str_charAt {l : Launch} {g : Gh} {G : Wd} {q v N j : Nat} {x : Int32} {f : Nat → Int32} (hN : N < 2 ^ 31) (hY : ∀ U, gS g U → EY g U) (hA : SA g G q v N f) (hj : vp_in x N ∧ x.toNatClampNeg = j) : MT l g yJ3_charAt cJ3_charAt 2 (some .char) 4 G [.ref q, .int x] (some (.int (chr (f j)))) G := by
  refine pv_start (by decide) (Nat.le_of_ble_eq_true rfl) ?_
  intro X hl hg hN9 hc hr _ _ _ hQ
  subst hl; subst hg
  show V X 0 0 _ [(0, .ref q), (1, .int x)] [] 0
  refine pv_aload_n 0 hc dJ3_charAt_0 rfl rfl ?_
  refine fun hk hn => pv_callO (nA := 0) hc (str_isLatin1 hY hA) (fun H hW => (hA H hW _ _ hc.2.2.2.2.2.1 hc.2.2.2.2.1).1) (lw_V q715 q716 q717 q122 q718) (by decide +kernel) ⟨by decide, by decide⟩ rfl rfl (Nat.le_of_ble_eq_true rfl) dJ3_charAt_1 ⟨hk, hn⟩ ?_ hk hn
  refine pv_if_eq (tgt := 16) (A := none) (B := some ()) (r := ()) hc dJ3_charAt_4 (by decide) (by decide) (fun h => by cases h) (fun _ => ?_)
  refine pv_aload_n 0 hc dJ3_charAt_7 rfl rfl ?_
  refine pv_getO hc (fun H hW => (hA H hW _ _ hc.2.2.2.2.2.1 hc.2.2.2.2.1).2.2.1) q1115 (fun _ h => h) dJ3_charAt_8 ?_
  refine pv_iload_n 1 hc dJ3_charAt_11 rfl rfl ?_
  refine fun hk hn => pv_callS (nA := 2) hc (lat_charAt hN hY hA hj) (lw_S q719 q720 q123 q721) (by decide +kernel) ⟨by decide, by decide⟩ rfl rfl (Nat.le_of_ble_eq_true rfl) dJ3_charAt_12 ⟨hk, hn⟩ ?_ hk hn
  exact pv_tret hc hr hQ (chr_nar _) rfl rfl dJ3_charAt_15
theorem sa_of {g : Gh} {G : Wd} {i : Nat} (hM : OKX1 g) (hi : i < 41) : SA g G (gN g (2 * i)) (gN g (2 * i + 1)) (slen i) (sch i) := by
  intro H hW U A9 hS _
  obtain ⟨h1, h2, h3, h4⟩ := (xstr hM U hS.2.2.1).1 i hi
  have hq : ∀ a : Nat, a < (gH g).size → ¬ gb g ≤ a → H[a]? = (gH g)[a]? := fun a _ ha => hW.2.2.1 a (Nat.not_le.mp ha)
  exact ⟨(h1.kept hq).narrow (fun _ h => h.elim), (h2.kept hq).narrow (fun _ h => h.elim), (h3.kept hq).narrow (fun _ h => h.elim), (h4.kept hq).narrow (fun _ h => h.elim)⟩
theorem okY {g : Gh} (hM : OKX1 g) : ∀ U, gS g U → EY g U := fun U h => (xstr hM U h).2.2
theorem slen_lt {i : Nat} (hi : i < 41) : slen i < 2 ^ 31 := by
  have : ∀ i, i < 41 → slen i < 2 ^ 31 := by decide
  exact this i hi
theorem chr_sch {i j : Nat} (hi : i < 41) (hj : j < slen i) : chr (sch i j) = sch i j := by
  have : ∀ i, i < 41 → ∀ j, j < slen i → chr (sch i j) = sch i j := by decide +kernel
  exact this i hi j hj
