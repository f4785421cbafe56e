/-! the words lw_ext hold: a private method is selected whatever the class below -/
set_option maxRecDepth 100000
theorem lx_private {C : String} {x0 y0 y : MethodName} {s : State} {args : Array Value} (hy : y.cls ≠ "java/lang/invoke/MethodHandle" ∧ y.cls ≠ "java/lang/invoke/VarHandle") (h0 : (Cond.selects C x0 y0).before args s = true) (hc : y0.cls = y.cls) (hpriv : (Cond.privateMethod y).before args s = true) (hinst : (Cond.instanceMethod y).before args s = true) : (Cond.selects C y y).before args s = true := by
  obtain ⟨c, r, m0, hcl, hf0, hn0, hs0, mk0, hk0, hi0⟩ := Cond.selects_spec h0
  obtain ⟨mk, methM, hnamed, hmethM, -, -⟩ := Cond.instanceMethod_spec hinst
  have hfound : s.methodFound? y.cls y.name y.desc = some mk := State.methodFound?_of_named hnamed hy
  have e : mk.cls = m0.cls := Option.some.inj ((findClass_of_methodNamed hnamed).symm.trans (by rw [← hc]; exact findClass_of_methodNamed hn0))
  have hsel : selectMethod {} s.vm c mk = .method mk := selectMethod_private hmethM (Cond.privateMethod_at hpriv mk methM hnamed hmethM)
  simp only [Cond.before, Cond.holds, Cond.value, hcl, hfound, hnamed, hsel, e, hk0]
  simp; exact hi0
theorem lx_in {w : Cond} (h : w ∈ lw_tbl) (hn : w ∉ lw_ext) : w ∈ k2_sels lw_privs ++ tables_1 := (List.mem_append.mp h).resolve_right hn
theorem lx_tb {w : Cond} (h : w ∈ lw_all) : w ∈ lw_tbl := (List.mem_filter.mp h).1
theorem lx_hts {s : State} {args : Array Value} (hts : ∀ w ∈ k2_sels lw_privs ++ tables_1, w.before args s = true) : ∀ w ∈ lw_tbl, w.before args s = true := by
  intro w hw
  rcases List.mem_append.mp hw with hw | hw
  · exact hts w hw
  · obtain ⟨q, hq, rfl⟩ := List.mem_map.mp hw
    simp only [lw_extq, List.mem_cons, List.not_mem_nil, or_false] at hq
    rcases hq with rfl | rfl | rfl | rfl | rfl | rfl | rfl | rfl | rfl | rfl | rfl | rfl
    · exact lx_private (by decide) (hts _ (lx_in (lx_tb q659) (by decide +kernel))) rfl (hts _ (lx_in q670 (by decide +kernel))) (hts _ (lx_in (lx_tb q671) (by decide +kernel)))
    · exact lx_private (by decide) (hts _ (lx_in (lx_tb q659) (by decide +kernel))) rfl (hts _ (lx_in q674 (by decide +kernel))) (hts _ (lx_in (lx_tb q675) (by decide +kernel)))
    · exact lx_private (by decide) (hts _ (lx_in (lx_tb q659) (by decide +kernel))) rfl (hts _ (lx_in q681 (by decide +kernel))) (hts _ (lx_in (lx_tb q682) (by decide +kernel)))
    · exact lx_private (by decide) (hts _ (lx_in (lx_tb q659) (by decide +kernel))) rfl (hts _ (lx_in q685 (by decide +kernel))) (hts _ (lx_in (lx_tb q686) (by decide +kernel)))
    · exact lx_private (by decide) (hts _ (lx_in (lx_tb q665) (by decide +kernel))) rfl (hts _ (lx_in q670 (by decide +kernel))) (hts _ (lx_in (lx_tb q671) (by decide +kernel)))
    · exact lx_private (by decide) (hts _ (lx_in (lx_tb q665) (by decide +kernel))) rfl (hts _ (lx_in q674 (by decide +kernel))) (hts _ (lx_in (lx_tb q675) (by decide +kernel)))
    · exact lx_private (by decide) (hts _ (lx_in (lx_tb q665) (by decide +kernel))) rfl (hts _ (lx_in q681 (by decide +kernel))) (hts _ (lx_in (lx_tb q682) (by decide +kernel)))
    · exact lx_private (by decide) (hts _ (lx_in (lx_tb q665) (by decide +kernel))) rfl (hts _ (lx_in q685 (by decide +kernel))) (hts _ (lx_in (lx_tb q686) (by decide +kernel)))
    · exact lx_private (by decide) (hts _ (lx_in (lx_tb q667) (by decide +kernel))) rfl (hts _ (lx_in q670 (by decide +kernel))) (hts _ (lx_in (lx_tb q671) (by decide +kernel)))
    · exact lx_private (by decide) (hts _ (lx_in (lx_tb q667) (by decide +kernel))) rfl (hts _ (lx_in q674 (by decide +kernel))) (hts _ (lx_in (lx_tb q675) (by decide +kernel)))
    · exact lx_private (by decide) (hts _ (lx_in (lx_tb q667) (by decide +kernel))) rfl (hts _ (lx_in q681 (by decide +kernel))) (hts _ (lx_in (lx_tb q682) (by decide +kernel)))
    · exact lx_private (by decide) (hts _ (lx_in (lx_tb q667) (by decide +kernel))) rfl (hts _ (lx_in q685 (by decide +kernel))) (hts _ (lx_in (lx_tb q686) (by decide +kernel)))
