set_option maxRecDepth 100000
-- ===== System.arraycopy of bytes, clone() of bytes =====
section YCOPY
variable {l : Launch} {y : MethodName} {cc : ByteArray} {nL : Nat} {ret : Option FieldType} {hh : List (Nat × Nat × Nat × Nat)} {G : YG} {R : Room} {Z : YE} {pc : Nat} {L : List (Nat × Value)} {rest : List Value} {σ : AH} {k n : Nat}
theorem x_copyB {ix a b n0 n1 sp dp m : Nat} {f g : Nat → Int32} (hd : decode cc pc = .ok (.invokestatic ix, 3)) (hl : Cond.methodLink y.cls ix arraycopyName ∈ lw_all) (hb : σ b = some (.inl (3, n0, .inl f))) (ha : σ a = some (.inl (3, n1, .inl g))) (h4 : sp + m ≤ n0) (h5 : dp + m ≤ n1) (h6 : n0 < 2 ^ 26) (h7 : n1 < 2 ^ 26) (hfit : ∀ i, i < m → fits .byte (.int (f (sp + i))) = true) (hf : 1 ≤ R.frames ∧ 40 ≤ R.locals) (hr : (rest.map fun v => v.category).sum ≤ 8)
    (kk : ∀ τ : AH, τ a = some (.inl (3, n1, .inl (va_cpy f g sp dp m))) → (∀ q, q ≠ a → τ q = σ q) → X l y cc nL ret hh G R Z (pc + 3) L rest τ k n) : X l y cc nL ret hh G R Z pc L (.int (nI m) :: .int (nI dp) :: .ref a :: .int (nI sp) :: .ref b :: rest) σ k n := by
  intro p e s mm args below meth c H locs cells slots ls hB hR hS h e1 e2
  obtain ⟨ws, hm, hP, hD⟩ := id hR
  obtain ⟨i, hi⟩ := rep_at (hm _ _ hb)
  obtain ⟨j, hj⟩ := rep_at (hm _ _ ha)
  have hts := hB.2.2.2.2.2.2.2.1
  have hK := hB.2.2.2.2.2.2.2.2.2.1
  have c1 : (nI sp).toNatClampNeg = sp := nI_clamp (by omega)
  have c2 : (nI dp).toNatClampNeg = dp := nI_clamp (by omega)
  have c3 : (nI m).toNatClampNeg = m := nI_clamp (by omega)
  have g1 : ¬ nI sp < 0 := nI_pos (by omega)
  have g2 : ¬ nI dp < 0 := nI_pos (by omega)
  have g3 : ¬ nI m < 0 := nI_pos (by omega)
  have hloc : (rest.map fun v => v.category).sum + (nativeFrameWords "java/lang/System" "arraycopy" 5 + 11) ≤ R.locals := by
    have : nativeFrameWords "java/lang/System" "arraycopy" 5 = 7 := by decide
    omega
  refine va_copyi (ty := .byte) hB.1 hB.2.1 (by rw [hB.2.2.2.2.1]; exact h.1.symm) hB.2.2.2.2.2.1 (hts _ hl) (hts _ q275) (hts _ q274) (hts _ q95) hK hP hD hS i j 3 3 hi hj rfl rfl rfl g1 g2 g3 (by rw [c1, c3]; exact h4) (by rw [c2, c3]; exact h5) (fun z hz => by rw [c1]; rw [c3] at hz; exact hfit z hz) hf.1 hloc hd (fun H1 locs1 hP1 hD1 hS1 => ?_)
  rw [c1, c2, c3] at hP1 hD1
  exact kk _ up_self (fun q hq => up_ne hq) p e s mm args below meth c H1 locs1 cells slots ls hB (rep_set hm hj hD hP1 hD1) hS1 h e1 e2
theorem x_copyK {ix a i0 n1 sp dp m : Nat} {g : Nat → Int32} (hd : decode cc pc = .ok (.invokestatic ix, 3)) (hl : Cond.methodLink y.cls ix arraycopyName ∈ lw_all) (hi0 : i0 < 9) (ha : σ a = some (.inl (3, n1, .inl g))) (h4 : sp + m ≤ yLen.getD i0 0) (h5 : dp + m ≤ n1) (h6 : yLen.getD i0 0 < 2 ^ 26) (h7 : n1 < 2 ^ 26) (hfit : ∀ i, i < m → fits .byte (.int ((yByt.getD i0 []).getD (sp + i) 0)) = true) (hf : 1 ≤ R.frames ∧ 40 ≤ R.locals) (hr : (rest.map fun v => v.category).sum ≤ 8)
    (kk : ∀ τ : AH, τ a = some (.inl (3, n1, .inl (va_cpy (fun j => (yByt.getD i0 []).getD j 0) g sp dp m))) → (∀ q, q ≠ a → τ q = σ q) → X l y cc nL ret hh G R Z (pc + 3) L rest τ k n) : X l y cc nL ret hh G R Z pc L (.int (nI m) :: .int (nI dp) :: .ref a :: .int (nI sp) :: .ref (gc G (10 + i0)) :: rest) σ k n := by
  intro p e s mm args below meth c H locs cells slots ls hB hR hS h e1 e2
  obtain ⟨ws, hm, hP, hD⟩ := id hR
  obtain ⟨j, hj⟩ := rep_at (hm _ _ ha)
  have hts := hB.2.2.2.2.2.2.2.1
  have hG : Glob G s := hB.2.2.2.2.2.2.2.2.2
  have hX := (hG.2.2.2.2.2.2.2.2.1 i0 hi0).2.2
  have c1 : (nI sp).toNatClampNeg = sp := nI_clamp (by omega)
  have c2 : (nI dp).toNatClampNeg = dp := nI_clamp (by omega)
  have c3 : (nI m).toNatClampNeg = m := nI_clamp (by omega)
  have g1 : ¬ nI sp < 0 := nI_pos (by omega)
  have g2 : ¬ nI dp < 0 := nI_pos (by omega)
  have g3 : ¬ nI m < 0 := nI_pos (by omega)
  have hloc : (rest.map fun v => v.category).sum + (nativeFrameWords "java/lang/System" "arraycopy" 5 + 11) ≤ R.locals := by
    have : nativeFrameWords "java/lang/System" "arraycopy" 5 = 7 := by decide
    omega
  refine vk_copyt (f := fun j => (yByt.getD i0 []).getD j 0) hB.1 hB.2.1 (by rw [hB.2.2.2.2.1]; exact h.1.symm) hB.2.2.2.2.2.1 (hts _ hl) (hts _ q275) (hts _ q274) (hts _ q95) hG.1 hP hD hS hX j 3 hj rfl g1 g2 g3 (by rw [c1, c3]; exact h4) (by rw [c2, c3]; exact h5) (fun z hz => by rw [c1]; rw [c3] at hz; exact hfit z hz) hf.1 hloc hd (fun H1 locs1 hP1 hD1 hS1 => ?_)
  rw [c1, c2, c3] at hP1 hD1
  exact kk _ up_self (fun q hq => up_ne hq) p e s mm args below meth c H1 locs1 cells slots ls hB (rep_set hm hj hD hP1 hD1) hS1 h e1 e2
end YCOPY
section YCLONE
variable {l : Launch} {y : MethodName} {cc : ByteArray} {nL : Nat} {ret : Option FieldType} {hh : List (Nat × Nat × Nat × Nat)} {G : YG} {R : Room} {Z : YE} {pc : Nat} {L : List (Nat × Value)} {rest : List Value} {σ : AH} {k n : Nat}
theorem x_cloneB {ix a N : Nat} {f : Nat → Int32} (hd : decode cc pc = .ok (.invokevirtual ix, 3)) (hl : Cond.methodLink y.cls ix ⟨"[B", "clone", "()Ljava/lang/Object;"⟩ ∈ lw_all) (ha : σ a = some (.inl (3, N, .inl f))) (hfit : ∀ i, i < N → fits .byte (.int (f i)) = true) (hf : 1 ≤ R.frames ∧ 40 ≤ R.locals) (hr : (rest.map fun v => v.category).sum ≤ 8) (hk : 1 ≤ k) (hn : N ≤ n)
    (kk : ∀ (q : Nat) (τ : AH), σ q = none → gb G ≤ q → τ q = some (.inl (3, N, .inl f)) → (∀ r, r ≠ q → τ r = σ r) → X l y cc nL ret hh G R Z (pc + 3) L (.ref q :: rest) τ (k - 1) (n - N)) : X l y cc nL ret hh G R Z pc L (.ref a :: rest) σ k n := by
  intro p e s mm args below meth c H locs cells slots ls hB hR hS h e1 e2
  obtain ⟨ws, hm, hP, hD⟩ := id hR
  obtain ⟨i, hi⟩ := rep_at (hm _ _ ha)
  have hts := hB.2.2.2.2.2.2.2.1
  have hG : Glob G s := hB.2.2.2.2.2.2.2.2.2
  have hnm : s.vm.findClass "[B" = some (gA G 3) := (hG.1.2 3 (gA G 3, .byte) rfl).2
  refine va_clone (x := (N, .inl f)) (ty := .byte) hB.1 hB.2.1 (by rw [hB.2.2.2.2.1]; exact h.1.symm) hB.2.2.2.2.2.1 (hts _ hl) (hts _ q727) (hts _ q728) (hts _ q729) (hts _ q730) (hG.2.1 _ q731 rfl) hG.1 hP hD hS (hA_Afr hG) i 3 hi rfl hnm (fun j v hv => ?_) hf.1 (by omega) (by omega) (by show slots + N ≤ _; omega) hd (fun q H1 hK1 hP1 hD1 hS1 => ?_)
  · exact va_fit (F := fun j => Value.int (f j)) (fun i hi => hfit i hi) j v hv
  · obtain ⟨g1, g2, g3⟩ := rep_push (e := .inl (3, N, .inl f)) hm hP1 hD1
    exact kk q _ g2 g3 up_self (fun z hz => up_ne hz) p e s mm args below meth c H1 locs (cells + 1) (slots + N) ls hB g1 hS1 h (by omega) (by omega)
end YCLONE
section YCALLP
variable {l : Launch} {y : MethodName} {cc : ByteArray} {nL : Nat} {ret : Option FieldType} {hh : List (Nat × Nat × Nat × Nat)} {G : YG} {R : Room} {Z : YE} {pc : Nat} {L : List (Nat × Value)} {st rest : List Value} {σ : AH} {k n : Nat}
/-- a private method is what is selected, whatever the object's type -/
theorem sel_private {y z z' : MethodName} {C : String} {s : State} {args : Array Value} (hy : y.cls ≠ "java/lang/invoke/MethodHandle" ∧ y.cls ≠ "java/lang/invoke/VarHandle") (hz : (Cond.selects C z z').before args s = true) (hzc : z'.cls = y.cls) (hpriv : (Cond.privateMethod y).before args s = true) (hinst : (Cond.instanceMethod y).before args s = true) : (Cond.selects C y y).before args s = true := by
  obtain ⟨c, r, m, hc, -, hm, -, k, hk, hki⟩ := Cond.selects_spec hz
  obtain ⟨mk, methM, hnamed, hmethM, -, -⟩ := Cond.instanceMethod_spec hinst
  have hfound : s.methodFound? y.cls y.name y.desc = some mk := State.methodFound?_of_named hnamed hy
  have hcls : mk.cls = m.cls := Option.some.inj ((findClass_of_methodNamed hnamed).symm.trans (by rw [← hzc]; exact findClass_of_methodNamed hm))
  have hsel : selectMethod {} s.vm c mk = .method mk := selectMethod_private hmethM (Cond.privateMethod_at hpriv mk methM hnamed hmethM)
  simp only [Cond.before, Cond.holds, Cond.value, hc, hfound, hnamed, hsel, hcls, hk]
  simp; exact hki
theorem x_callP {y2 z z' : MethodName} {C : String} {c2 : ByteArray} {n2 : Nat} {r2 : Option FieldType} {d mc ms a ix : Nat} {as : List Value} {Pq : YR → AH → Prop} (hd : decode cc pc = .ok (.invokevirtual ix, 3)) (hC : Con l y2 c2 n2 r2 G d mc ms (.ref a :: as) σ Pq) (h1 : Cond.methodLink y.cls ix y2 ∈ lw_all) (h2 : Cond.sameMethod y2.cls y2.cls y2.name y2.desc ∈ lw_all) (h3 : Cond.privateMethod y2 ∈ lw_tbl) (h4 : Cond.instanceMethod y2 ∈ lw_all) (h5 : Cond.initialized y2.cls ∈ lw_all) (h6 : Cond.code y2 c2 n2 r2 ∈ lw_all) (h7 : Cond.selects C z z' ∈ lw_all) (h8 : z'.cls = y2.cls) {np : Nat} (hds : y2.cls ≠ "java/lang/invoke/MethodHandle" ∧ y2.cls ≠ "java/lang/invoke/VarHandle" ∧ (parseMethodDescriptor y2.desc).map (fun d => d.parameters.length) = some np) (hnp : as.length = np) (hrc : rcv G σ C a)
    (hr : d + 1 ≤ R.frames ∧ 8 + (n2 + 11) + 64 * d ≤ R.locals) (hrest : (rest.map fun v => v.category).sum ≤ 8) (hst : st = as.reverse ++ .ref a :: rest) (hk : mc ≤ k) (hn : ms ≤ n) (kR : ∀ v τ, Pq (.inl v) τ → X l y cc nL ret hh G R Z (pc + 3) L (v.toList ++ rest) τ (k - mc) (n - ms)) (kT : ∀ E q τ, Pq (.inr (E, q)) τ → XT l y cc nL ret hh G R Z pc L rest E q τ (k - mc) (n - ms)) : X l y cc nL ret hh G R Z pc L st σ k n := by
  subst hst
  subst hnp
  refine x_run (av := (Value.ref a :: as).toArray) (mc := mc) (ms := ms) (pcn := pc + 3) ?_ hk hn kR kT
  intro p e s m args below meth c H locs cells slots ls hB hR hS h hf T hT hX
  have hG : Glob G s := hB.2.2.2.2.2.2.2.2.2
  have hts := hB.2.2.2.2.2.2.2.1
  have hp := yPre (as := .ref a :: as) hG hR hS
  have hsel : (Cond.selects C y2 y2).before args s = true := sel_private ⟨hds.1, hds.2.1⟩ (hts _ h7) h8 ((hG.2.1 _ h3 rfl).use rfl) (hts _ h4)
  have hts' : ∀ w ∈ Cond.selects C y2 y2 :: lw_all, w.before args s = true := fun w hw => by
    rcases List.mem_cons.mp hw with e | e
    · rw [e]; exact hsel
    · exact hts w e
  have hgood : GoodIn (Cond.selects C y2 y2 :: lw_all) (va_wsU y.cls ix C y2.cls y2 y2 (ws_ y2 c2 n2 r2)) := fun w hw => by
    unfold va_wsU at hw
    have up : ∀ {w : Cond}, w ∈ lw_all → w ∈ Cond.selects C y2 y2 :: lw_all ∧ ((w.onTables && w.keeps) = true ∨ ∃ ty, w = .arrayClass ty) := fun {w} hw => ⟨List.mem_cons_of_mem _ hw, (lw_self _ hw).2⟩
    rcases List.mem_append.mp hw with q | q
    · simp only [List.mem_cons, List.not_mem_nil, or_false] at q
      rcases q with e | e | e | e | e
      · rw [e]; exact up h1
      · rw [e]; exact up h2
      · rw [e]; exact ⟨List.mem_cons_self, good_of_word rfl⟩
      · rw [e]; exact up h4
      · rw [e]; exact up h5
    · exact up (lw_meth h6 w q).1
  exact vz_runU (As := as) (rest := rest) (g := F0 m pc ls (as.reverse ++ .ref a :: rest)) ⟨hB.1, hB.2.1, hB.2.2.2.2.1, hB.2.2.2.2.2.1, hts'⟩ hC (va_cwU as.length hts' hgood rfl rfl rfl rfl hds hr) ⟨hp.1, rcv_cell hG hR hS hrc, hp.2⟩ rfl rfl h.1 rfl (lv_room hrest) hd hf T hT hX
end YCALLP
