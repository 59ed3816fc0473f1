set_option maxRecDepth 100000
-- ===== calls of inherited, overriding, super and interface methods: their words =====
theorem lw_U {own : String} {idx : Nat} {C owner : String} {x y : MethodName} {b : ByteArray} {L : Nat} {r : Option FieldType} (h1 : Cond.methodLink own idx x ∈ lw_all) (h2 : Cond.sameMethod x.cls owner x.name x.desc ∈ lw_all) (h3 : Cond.selects C x y ∈ lw_all) (h4 : Cond.instanceMethod y ∈ lw_all) (h5 : Cond.initialized y.cls ∈ lw_all) (h6 : Cond.code y b L r ∈ lw_all) : GoodIn lw_all (va_wsU own idx C owner x y (ws_ y b L r)) := by
  refine lw_app ?_ (lw_meth h6)
  intro w hw
  simp only [List.mem_cons, List.not_mem_nil, or_false] at hw
  rcases hw with e | e | e | e | e
  · rw [e]; exact h1
  · rw [e]; exact h2
  · rw [e]; exact h3
  · rw [e]; exact h4
  · rw [e]; exact h5
theorem lw_F {own : String} {idx : Nat} {C : String} {x y : MethodName} {b : ByteArray} {L : Nat} {r : Option FieldType} (h1 : Cond.methodLink own idx x ∈ lw_all) (h3 : Cond.selects C x y ∈ lw_all) (h4 : Cond.instanceMethod y ∈ lw_all) (h5 : Cond.initialized y.cls ∈ lw_all) (h6 : Cond.code y b L r ∈ lw_all) : GoodIn lw_all (va_wsF own idx C x y (ws_ y b L r)) := by
  refine lw_app ?_ (lw_meth h6)
  intro w hw
  simp only [List.mem_cons, List.not_mem_nil, or_false] at hw
  rcases hw with e | e | e | e
  · rw [e]; exact h1
  · rw [e]; exact h3
  · rw [e]; exact h4
  · rw [e]; exact h5
theorem lw_SU {own : String} {idx : Nat} {y : MethodName} {b : ByteArray} {L : Nat} {r : Option FieldType} (h1 : Cond.methodLink own idx y ∈ lw_all) (h2 : Cond.sameMethod y.cls y.cls y.name y.desc ∈ lw_all) (h3 : Cond.superclass own y.cls ∈ lw_all) (h4 : Cond.instanceMethod y ∈ lw_all) (h5 : Cond.initialized y.cls ∈ lw_all) (h6 : Cond.code y b L r ∈ lw_all) : GoodIn lw_all (va_wsSU own idx y (ws_ y b L r)) := by
  refine lw_app ?_ (lw_meth h6)
  intro w hw
  simp only [List.mem_cons, List.not_mem_nil, or_false] at hw
  rcases hw with e | e | e | e | e
  · rw [e]; exact h1
  · rw [e]; exact h2
  · rw [e]; exact h3
  · rw [e]; exact h4
  · rw [e]; exact h5
section YCALLA
variable {l : Launch} {y : MethodName} {cc : ByteArray} {nL : Nat} {ret : Option FieldType} {hh : List (Nat × Nat × Nat × Nat)} {G : YG} {R : Room} {Z : YE} {pc : Nat} {L : List (Nat × Value)} {st rest : List Value} {σ : AH} {k n : Nat}
/-- the named method is another's, abstract or not -/
theorem x_callA {x2 y2 : MethodName} {C owner : String} {c2 : ByteArray} {n2 : Nat} {r2 : Option FieldType} {d mc ms a ix : Nat} {as : List Value} {Pq : YR → AH → Prop} (hd : decode cc pc = .ok (.invokevirtual ix, 3)) (hC : Con l y2 c2 n2 r2 G d mc ms (.ref a :: as) σ Pq) (hw : GoodIn lw_all (va_wsU y.cls ix C owner x2 y2 (ws_ y2 c2 n2 r2))) (hz : Cond.declares ⟨owner, x2.name, x2.desc⟩ ∈ lw_tbl) {np : Nat} (hds : owner ≠ "java/lang/invoke/MethodHandle" ∧ owner ≠ "java/lang/invoke/VarHandle" ∧ (parseMethodDescriptor x2.desc).map (fun d => d.parameters.length) = some np) (hnp : as.length = np) (hrc : rcv G σ C a)
    (hr : d + 1 ≤ R.frames ∧ 8 + (n2 + 11) + 64 * d ≤ R.locals) (hrest : (rest.map fun v => v.category).sum ≤ 8) (hst : st = as.reverse ++ .ref a :: rest) (hk : mc ≤ k) (hn : ms ≤ n) (kR : ∀ v τ, Pq (.inl v) τ → X l y cc nL ret hh G R Z (pc + 3) L (v.toList ++ rest) τ (k - mc) (n - ms)) (kT : ∀ E q τ, Pq (.inr (E, q)) τ → XT l y cc nL ret hh G R Z pc L rest E q τ (k - mc) (n - ms)) : X l y cc nL ret hh G R Z pc L st σ k n := by
  subst hst
  subst hnp
  refine x_run (av := (Value.ref a :: as).toArray) (mc := mc) (ms := ms) (pcn := pc + 3) ?_ hk hn kR kT
  intro p e s m args below meth c H locs cells slots ls hB hR hS h hf T hT hX
  have hG : Glob G s := hB.2.2.2.2.2.2.2.2.2
  have hts := hB.2.2.2.2.2.2.2.1
  have hp := yPre (as := .ref a :: as) hG hR hS
  exact vz_runU (As := as) (rest := rest) (g := F0 m pc ls (as.reverse ++ .ref a :: rest)) ⟨hB.1, hB.2.1, hB.2.2.2.2.1, hB.2.2.2.2.2.1, hts⟩ hC (va_cwA as.length hts hw rfl rfl rfl (hG.2.1 _ hz rfl) hds hr) ⟨hp.1, rcv_cell hG hR hS hrc, hp.2⟩ rfl rfl h.1 rfl (lv_room hrest) hd hf T hT hX
end YCALLA
-- ===== doubly linked rows =====
abbrev NL : Type := List (Nat × Nat)
def nx (ns : NL) (i : Nat) : Option Nat := (ns[i]?).map (fun x => x.1)
def pv (ns : NL) : Nat → Option Nat
  | 0 => none
  | i + 1 => nx ns i
def LL (σ : AH) (p : Nat) (mc : Int32) (ns : NL) : Prop :=
  σ p = some (.inr (11, [.int mc, .int (nI ns.length), va_rf (nx ns 0), va_rf (pv ns ns.length)])) ∧
  (∀ i x, ns[i]? = some x → σ x.1 = some (.inr (12, [.ref x.2, va_rf (nx ns (i + 1)), va_rf (pv ns i)]))) ∧
  (ns.map (fun x => x.1)).Nodup ∧ ns.length < 2 ^ 20
/-- its own cells -/
def LW (p : Nat) (ns : NL) : Nat → Prop := fun q => q = p ∨ ∃ x ∈ ns, q = x.1
theorem nx_some {ns : NL} {i : Nat} {x : Nat × Nat} (h : ns[i]? = some x) : nx ns i = some x.1 := by unfold nx; rw [h]; rfl
theorem nx_none {ns : NL} {i : Nat} (h : ns.length ≤ i) : nx ns i = none := by unfold nx; rw [List.getElem?_eq_none h]; rfl
theorem LL.ro {σ τ : AH} {p : Nat} {mc : Int32} {ns : NL} (h : LL σ p mc ns) (hr : RO σ τ) : LL τ p mc ns := ⟨hr _ _ h.1, fun i x hx => hr _ _ (h.2.1 i x hx), h.2.2⟩
theorem LL.fr {W : Nat → Prop} {σ τ : AH} {p : Nat} {mc : Int32} {ns : NL} (h : LL σ p mc ns) (hf : Fr W σ τ) (hw : ∀ q, LW p ns q → ¬ W q) : LL τ p mc ns :=
  ⟨hf.1 _ _ h.1 (hw _ (Or.inl rfl)), fun i x hx => hf.1 _ _ (h.2.1 i x hx) (hw _ (Or.inr ⟨x, List.mem_of_getElem? hx, rfl⟩)), h.2.2⟩
theorem LL.inj {σ : AH} {p : Nat} {mc : Int32} {ns : NL} (h : LL σ p mc ns) {i j : Nat} {x y : Nat × Nat} (hi : ns[i]? = some x) (hj : ns[j]? = some y) (he : x.1 = y.1) : i = j := by
  have hn := h.2.2.1
  obtain ⟨hi1, hi2⟩ := List.getElem?_eq_some_iff.mp hi
  obtain ⟨hj1, hj2⟩ := List.getElem?_eq_some_iff.mp hj
  have := List.getElem_inj (h₀ := by rw [List.length_map]; exact hi1) (h₁ := by rw [List.length_map]; exact hj1) hn (i := i) (j := j)
  refine this.mp ?_
  rw [List.getElem_map, List.getElem_map, hi2, hj2]
  exact he
theorem ins_get {ns : NL} {i : Nat} (hi : i ≤ ns.length) (w : Nat × Nat) (k : Nat) : (ns.take i ++ w :: ns.drop i)[k]? = if k < i then ns[k]? else if k = i then some w else ns[k - 1]? := by
  rw [mid_get, List.take_append_drop, List.length_take, Nat.min_eq_left hi]
theorem ins_len {ns : NL} {i : Nat} (hi : i ≤ ns.length) (w : Nat × Nat) : (ns.take i ++ w :: ns.drop i).length = ns.length + 1 := by
  rw [List.length_append, List.length_cons, List.length_take, List.length_drop]
  omega
theorem nx_ins {ns : NL} {i : Nat} (hi : i ≤ ns.length) (w : Nat × Nat) (k : Nat) : nx (ns.take i ++ w :: ns.drop i) k = if k < i then nx ns k else if k = i then some w.1 else nx ns (k - 1) := by
  unfold nx
  rw [ins_get hi]
  split
  · rfl
  · split <;> rfl
theorem pv_ins {ns : NL} {i : Nat} (hi : i ≤ ns.length) (w : Nat × Nat) (k : Nat) : pv (ns.take i ++ w :: ns.drop i) k = if k ≤ i then pv ns k else if k = i + 1 then some w.1 else pv ns (k - 1) := by
  cases k with
  | zero => rw [if_pos (Nat.zero_le _)]; rfl
  | succ k =>
    show nx _ k = if k + 1 ≤ i then nx ns k else if k + 1 = i + 1 then some w.1 else pv ns k
    rw [nx_ins hi]
    rcases Nat.lt_trichotomy k i with h | h | h
    · have h1 : k + 1 ≤ i := h
      simp only [h, h1, if_true]
    · subst h
      have h1 : ¬ k < k := Nat.lt_irrefl _
      have h2 : ¬ k + 1 ≤ k := by omega
      simp only [h1, h2, if_true, if_false]
    · have h1 : ¬ k < i := by omega
      have h2 : ¬ k = i := by omega
      have h3 : ¬ k + 1 ≤ i := by omega
      have h4 : ¬ k + 1 = i + 1 := by omega
      simp only [h1, h2, h3, h4, if_false]
      obtain ⟨j, rfl⟩ : ∃ j, k = j + 1 := ⟨k - 1, by omega⟩
      rfl
/-- a node comes in between -/
theorem LL.ins {σ τ : AH} {p q it i : Nat} {mc mc' : Int32} {ns : NL} (h : LL σ p mc ns) (hi : i ≤ ns.length) (hq : σ q = none) (hl : ns.length + 1 < 2 ^ 20)
    (h1 : τ p = some (.inr (11, [.int mc', .int (nI (ns.length + 1)), va_rf (if i = 0 then some q else nx ns 0), va_rf (if i = ns.length then some q else pv ns ns.length)])))
    (h2 : τ q = some (.inr (12, [.ref it, va_rf (nx ns i), va_rf (pv ns i)])))
    (h3 : ∀ j x, ns[j]? = some x → τ x.1 = some (.inr (12, [.ref x.2, va_rf (if j + 1 = i then some q else nx ns (j + 1)), va_rf (if j = i then some q else pv ns j)]))) : LL τ p mc' (ns.take i ++ (q, it) :: ns.drop i) := by
  refine ⟨?_, fun k x hx => ?_, ?_, by rw [ins_len hi]; exact hl⟩
  · rw [ins_len hi, h1]
    have ea : (if i = 0 then some q else nx ns 0) = nx (ns.take i ++ (q, it) :: ns.drop i) 0 := by
      rw [nx_ins hi]
      by_cases e : i = 0
      · subst e
        rfl
      · have h1 : 0 < i := by omega
        simp only [e, h1, if_true, if_false]
    have eb : (if i = ns.length then some q else pv ns ns.length) = pv (ns.take i ++ (q, it) :: ns.drop i) (ns.length + 1) := by
      rw [pv_ins hi]
      have h1 : ¬ ns.length + 1 ≤ i := by omega
      by_cases e : i = ns.length
      · have h2 : ns.length + 1 = i + 1 := by omega
        rw [if_pos e, if_neg h1, if_pos h2]
      · have h2 : ¬ ns.length + 1 = i + 1 := by omega
        simp only [e, h1, h2, if_false]; rfl
    rw [ea, eb]
  · rw [ins_get hi] at hx
    rw [nx_ins hi, pv_ins hi]
    rcases Nat.lt_trichotomy k i with e | e | e
    · rw [if_pos e] at hx
      rw [h3 k x hx]
      have g1 : ¬ k = i := by omega
      have g2 : k ≤ i := by omega
      by_cases e2 : k + 1 = i
      · have g3 : ¬ k + 1 < i := by omega
        simp only [g1, g2, g3, e2, if_true, if_false]
        simp
      · have g3 : k + 1 < i := by omega
        simp only [g1, g2, g3, e2, if_true, if_false]
    · subst e
      rw [if_neg (Nat.lt_irrefl _), if_pos rfl] at hx
      cases hx
      have g1 : ¬ k + 1 < k := by omega
      have g2 : ¬ k + 1 = k := by omega
      have g3 : k ≤ k := Nat.le_refl _
      simp only [g1, g2, g3, if_true, if_false, Nat.add_sub_cancel]
      exact h2
    · rw [if_neg (show ¬ k < i by omega), if_neg (show ¬ k = i by omega)] at hx
      rw [h3 (k - 1) x hx]
      have g1 : ¬ k - 1 + 1 = i := by omega
      have g2 : ¬ k + 1 < i := by omega
      have g3 : ¬ k + 1 = i := by omega
      have g4 : ¬ k ≤ i := by omega
      have g5 : k - 1 + 1 = k := by omega
      simp only [g1, g2, g3, g4, if_false, Nat.add_sub_cancel, g5]
      by_cases e3 : k = i + 1
      · have g6 : k - 1 = i := by omega
        simp only [e3, if_true, Nat.add_sub_cancel]; simp
      · have g6 : ¬ k - 1 = i := by omega
        have g7 : ¬ k = i := by omega
        simp only [e3, g6, g7, if_false]
  · have hn := h.2.2.1
    rw [List.map_append, List.map_cons]
    have hsp : (ns.map (fun x => x.1)) = (ns.take i).map (fun x => x.1) ++ (ns.drop i).map (fun x => x.1) := by rw [← List.map_append, List.take_append_drop]
    have hnot : q ∉ ns.map (fun x => x.1) := fun hm => by
      obtain ⟨x, hx, he⟩ := List.mem_map.mp hm
      obtain ⟨j, hj⟩ := List.getElem?_of_mem hx
      have := h.2.1 j x hj
      rw [he, hq] at this
      cases this
    rw [hsp] at hn hnot
    rw [List.nodup_append] at hn ⊢
    refine ⟨hn.1, List.nodup_cons.mpr ⟨fun z => hnot (List.mem_append_right _ z), hn.2.1⟩, fun a ha b hb => ?_⟩
    rcases List.mem_cons.mp hb with e | e
    · subst e; intro z; subst z; exact hnot (List.mem_append_left _ ha)
    · exact hn.2.2 a ha b e
theorem nx_er {ns : NL} {i : Nat} (k : Nat) : nx (ns.eraseIdx i) k = if k < i then nx ns k else nx ns (k + 1) := by
  unfold nx
  rw [List.getElem?_eraseIdx]
  split <;> rfl
theorem pv_er {ns : NL} {i : Nat} (k : Nat) : pv (ns.eraseIdx i) k = if k ≤ i then pv ns k else pv ns (k + 1) := by
  cases k with
  | zero => rw [if_pos (Nat.zero_le _)]; rfl
  | succ k =>
    show nx _ k = _
    rw [nx_er]
    by_cases h1 : k < i
    · rw [if_pos h1, if_pos (by omega)]; rfl
    · rw [if_neg h1, if_neg (by omega)]; rfl
/-- a node goes out -/
theorem LL.era {σ τ : AH} {p i : Nat} {mc mc' : Int32} {ns : NL} (h : LL σ p mc ns) (hi : i < ns.length)
    (h1 : τ p = some (.inr (11, [.int mc', .int (nI (ns.length - 1)), va_rf (if i = 0 then nx ns 1 else nx ns 0), va_rf (if i + 1 = ns.length then pv ns i else pv ns ns.length)])))
    (h3 : ∀ j x, j ≠ i → ns[j]? = some x → τ x.1 = some (.inr (12, [.ref x.2, va_rf (if j + 1 = i then nx ns (i + 1) else nx ns (j + 1)), va_rf (if j = i + 1 then pv ns i else pv ns j)]))) : LL τ p mc' (ns.eraseIdx i) := by
  have hlen : (ns.eraseIdx i).length = ns.length - 1 := List.length_eraseIdx_of_lt hi
  refine ⟨?_, fun k x hx => ?_, ?_, by have := h.2.2.2; omega⟩
  · rw [hlen, h1]
    have ea : (if i = 0 then nx ns 1 else nx ns 0) = nx (ns.eraseIdx i) 0 := by
      rw [nx_er]
      by_cases e : i = 0
      · have h1 : ¬ 0 < i := by omega
        simp only [e, if_true]; simp
      · have h1 : 0 < i := by omega
        simp only [e, h1, if_true, if_false]
    have eb : (if i + 1 = ns.length then pv ns i else pv ns ns.length) = pv (ns.eraseIdx i) (ns.length - 1) := by
      rw [pv_er]
      by_cases e : i + 1 = ns.length
      · have h1 : ns.length - 1 ≤ i := by omega
        have h2 : ns.length - 1 = i := by omega
        rw [if_pos e, if_pos h1, h2]
      · have h1 : ¬ ns.length - 1 ≤ i := by omega
        have h2 : ns.length - 1 + 1 = ns.length := by omega
        simp only [e, h1, h2, if_false]
    rw [ea, eb]
  · rw [List.getElem?_eraseIdx] at hx
    rw [nx_er, pv_er]
    by_cases e1 : k < i
    · rw [if_pos e1] at hx
      rw [h3 k x (by omega) hx]
      have g1 : ¬ k = i + 1 := by omega
      have g2 : k ≤ i := by omega
      by_cases e2 : k + 1 = i
      · have g3 : ¬ k + 1 < i := by omega
        simp only [g1, g2, g3, e2, if_true, if_false]
        simp
      · have g3 : k + 1 < i := by omega
        simp only [g1, g2, g3, e2, if_true, if_false]
    · rw [if_neg e1] at hx
      rw [h3 (k + 1) x (by omega) hx]
      have g1 : ¬ k + 1 + 1 = i := by omega
      have g2 : ¬ k + 1 < i := by omega
      by_cases e3 : k = i
      · subst e3
        rw [if_neg g1, if_neg g2, if_pos rfl, if_pos (Nat.le_refl _)]
      · have g3 : ¬ k + 1 = i + 1 := by omega
        have g4 : ¬ k ≤ i := by omega
        simp only [g1, g2, g3, g4, if_false]
  · exact h.2.2.1.sublist ((List.eraseIdx_sublist ns i).map _)
