set_option maxRecDepth 100000
-- ===== ends, calls =====
abbrev PI (f : Int32 → AH → Prop) : YR → AH → Prop := fun r τ => ∃ z : Int32, r = .inl (some (.int z)) ∧ f z τ
abbrev PV (f : AH → Prop) : YR → AH → Prop := fun r τ => r = .inl none ∧ f τ
abbrev PA (f : Nat → AH → Prop) : YR → AH → Prop := fun r τ => ∃ z : Nat, r = .inl (some (.ref z)) ∧ f z τ
abbrev PQ (f : Option Nat → AH → Prop) : YR → AH → Prop := fun r τ => ∃ z : Option Nat, r = .inl (some (va_rf z)) ∧ f z τ
abbrev PD (f : UInt64 → AH → Prop) : YR → AH → Prop := fun r τ => ∃ z : UInt64, r = .inl (some (.double z)) ∧ f z τ
abbrev PF (f : UInt32 → AH → Prop) : YR → AH → Prop := fun r τ => ∃ z : UInt32, r = .inl (some (.float z)) ∧ f z τ
/-- it may throw -/
abbrev PX (P : YR → AH → Prop) (g : String → Nat → AH → Prop) : YR → AH → Prop := fun r τ => P r τ ∨ ∃ (E : String) (q : Nat), r = .inr (E, q) ∧ g E q τ
section YROWS
variable {l : Launch} {y : MethodName} {cc : ByteArray} {nL : Nat} {ret : Option FieldType} {hh : List (Nat × Nat × Nat × Nat)} {G : YG} {R : Room} {Z : YE} {pc : Nat} {L L' : List (Nat × Value)} {st rest : List Value} {σ : AH} {k n : Nat}
theorem rI {f : Int32 → AH → Prop} {pcn k' n' : Nat} (h : ∀ (z : Int32) (τ : AH), f z τ → X l y cc nL ret hh G R Z pcn L (.int z :: rest) τ k' n') : ∀ (v : Option Value) (τ : AH), PI f (.inl v) τ → X l y cc nL ret hh G R Z pcn L (v.toList ++ rest) τ k' n' := fun v τ ⟨z, e, hz⟩ => by
  cases e
  exact h z τ hz
theorem rV {f : AH → Prop} {pcn k' n' : Nat} (h : ∀ (τ : AH), f τ → X l y cc nL ret hh G R Z pcn L rest τ k' n') : ∀ (v : Option Value) (τ : AH), PV f (.inl v) τ → X l y cc nL ret hh G R Z pcn L (v.toList ++ rest) τ k' n' := fun v τ ⟨e, hz⟩ => by
  cases e
  exact h τ hz
theorem rA {f : Nat → AH → Prop} {pcn k' n' : Nat} (h : ∀ (z : Nat) (τ : AH), f z τ → X l y cc nL ret hh G R Z pcn L (.ref z :: rest) τ k' n') : ∀ (v : Option Value) (τ : AH), PA f (.inl v) τ → X l y cc nL ret hh G R Z pcn L (v.toList ++ rest) τ k' n' := fun v τ ⟨z, e, hz⟩ => by
  cases e
  exact h z τ hz
theorem rQ {f : Option Nat → AH → Prop} {pcn k' n' : Nat} (h : ∀ (z : Option Nat) (τ : AH), f z τ → X l y cc nL ret hh G R Z pcn L (va_rf z :: rest) τ k' n') : ∀ (v : Option Value) (τ : AH), PQ f (.inl v) τ → X l y cc nL ret hh G R Z pcn L (v.toList ++ rest) τ k' n' := fun v τ ⟨z, e, hz⟩ => by
  cases e
  exact h z τ hz
theorem rD {f : UInt64 → AH → Prop} {pcn k' n' : Nat} (h : ∀ (z : UInt64) (τ : AH), f z τ → X l y cc nL ret hh G R Z pcn L (.double z :: rest) τ k' n') : ∀ (v : Option Value) (τ : AH), PD f (.inl v) τ → X l y cc nL ret hh G R Z pcn L (v.toList ++ rest) τ k' n' := fun v τ ⟨z, e, hz⟩ => by
  cases e
  exact h z τ hz
theorem rF {f : UInt32 → AH → Prop} {pcn k' n' : Nat} (h : ∀ (z : UInt32) (τ : AH), f z τ → X l y cc nL ret hh G R Z pcn L (.float z :: rest) τ k' n') : ∀ (v : Option Value) (τ : AH), PF f (.inl v) τ → X l y cc nL ret hh G R Z pcn L (v.toList ++ rest) τ k' n' := fun v τ ⟨z, e, hz⟩ => by
  cases e
  exact h z τ hz
theorem rX {P : YR → AH → Prop} {g : String → Nat → AH → Prop} {pcn k' n' : Nat} (h : ∀ (v : Option Value) (τ : AH), P (.inl v) τ → X l y cc nL ret hh G R Z pcn L (v.toList ++ rest) τ k' n') : ∀ (v : Option Value) (τ : AH), PX P g (.inl v) τ → X l y cc nL ret hh G R Z pcn L (v.toList ++ rest) τ k' n' := fun v τ hz => by
  rcases hz with hz | ⟨E, q, e, -⟩
  · exact h v τ hz
  · cases e
/-- no throw: nothing to show -/
theorem nI' {f : Int32 → AH → Prop} {k' n' : Nat} : ∀ (E : String) (q : Nat) (τ : AH), PI f (.inr (E, q)) τ → XT l y cc nL ret hh G R Z pc L rest E q τ k' n' := fun _ _ _ ⟨_, e, _⟩ => by cases e
theorem nV' {f : AH → Prop} {k' n' : Nat} : ∀ (E : String) (q : Nat) (τ : AH), PV f (.inr (E, q)) τ → XT l y cc nL ret hh G R Z pc L rest E q τ k' n' := fun _ _ _ ⟨e, _⟩ => by cases e
theorem nA' {f : Nat → AH → Prop} {k' n' : Nat} : ∀ (E : String) (q : Nat) (τ : AH), PA f (.inr (E, q)) τ → XT l y cc nL ret hh G R Z pc L rest E q τ k' n' := fun _ _ _ ⟨_, e, _⟩ => by cases e
theorem nQ' {f : Option Nat → AH → Prop} {k' n' : Nat} : ∀ (E : String) (q : Nat) (τ : AH), PQ f (.inr (E, q)) τ → XT l y cc nL ret hh G R Z pc L rest E q τ k' n' := fun _ _ _ ⟨_, e, _⟩ => by cases e
theorem nD' {f : UInt64 → AH → Prop} {k' n' : Nat} : ∀ (E : String) (q : Nat) (τ : AH), PD f (.inr (E, q)) τ → XT l y cc nL ret hh G R Z pc L rest E q τ k' n' := fun _ _ _ ⟨_, e, _⟩ => by cases e
theorem nF' {f : UInt32 → AH → Prop} {k' n' : Nat} : ∀ (E : String) (q : Nat) (τ : AH), PF f (.inr (E, q)) τ → XT l y cc nL ret hh G R Z pc L rest E q τ k' n' := fun _ _ _ ⟨_, e, _⟩ => by cases e
theorem nX' {P : YR → AH → Prop} {g : String → Nat → AH → Prop} {k' n' : Nat} (h0 : ∀ (E : String) (q : Nat) (τ : AH), P (.inr (E, q)) τ → XT l y cc nL ret hh G R Z pc L rest E q τ k' n') (h : ∀ (E : String) (q : Nat) (τ : AH), g E q τ → XT l y cc nL ret hh G R Z pc L rest E q τ k' n') : ∀ (E : String) (q : Nat) (τ : AH), PX P g (.inr (E, q)) τ → XT l y cc nL ret hh G R Z pc L rest E q τ k' n' := fun E q τ hz => by
  rcases hz with hz | ⟨E', q', e, hz⟩
  · exact h0 E q τ hz
  · cases e
    exact h _ _ τ hz
theorem x_run {mc ms pcn : Nat} {av : Array Value} {Pq : YR → AH → Prop}
    (hr : ∀ (p : Program) (e : Env) (s : State) (m : MethodId) (args : Array Value) (below : List Frame) (meth : Method) (c : Code) (H : Heap) (locs : List Loc) (cells slots : Nat) (ls : Array Slot), YB y cc nL ret hh G p s m args meth c → Rep G σ H → va_S (Afr G) s.heap H locs → lv_has ls nL L → cells + mc ≤ R.cells ∧ slots + ms ≤ R.slots →
      ∀ T : State, T.heap = H → Stand p l e R s m args below meth c T locs cells slots →
    (∃ (v : Option Value) (st₀ t T' : State) (L : List Loc), st₀.heap = H ∧ Stand p l e R s m args below meth c T' (locs ++ L) (cells + mc) (slots + ms) ∧ (∀ q ∈ L, Afr G q.base) ∧ T'.heap = t.heap ∧ T'.vm = t.vm ∧ yQ G Pq av st₀ (.returned v) t ∧
      Goes p e below T (F0 m pc ls st) T' (F0 m pcn ls (v.toList ++ rest))) ∨
    (∃ (q : Addr) (st₀ t T' : State) (L : List Loc) (E : String) (ce : Cell), st₀.heap = H ∧ Stand p l e R s m args below meth c T' (locs ++ L) (cells + mc) (slots + ms) ∧ (∀ z ∈ L, Afr G z.base) ∧ T'.heap = t.heap ∧ T'.vm = t.vm ∧ yX G Pq E q st₀ t ∧ t.heap[q]? = some ce ∧ ce.vm = .none ∧ s.vm.findClass E = some ce.cls ∧
      Steps p.tables e below (T.setTop (F0 m pc ls st)) ((T'.setTop (F0 m pc ls rest)).pushFrame (.throwing q))))
    (hk : mc ≤ k) (hn : ms ≤ n) (kR : ∀ v τ, Pq (.inl v) τ → X l y cc nL ret hh G R Z pcn L (v.toList ++ rest) τ (k - mc) (n - ms)) (kT : ∀ E q τ, Pq (.inr (E, q)) τ → XT l y cc nL ret hh G R Z pc L rest E q τ (k - mc) (n - ms)) : X l y cc nL ret hh G R Z pc L st σ k n := by
  intro p e s m args below meth c H locs cells slots ls hB hR hS h e1 e2 T hT hX
  have key : ∀ (st₀ t T' : State) (L2 : List Loc), st₀.heap = H → (∀ q ∈ L2, Afr G q.base) → T'.heap = t.heap → va_F (Afr G) st₀ t → va_S (Afr G) s.heap T'.heap (locs ++ L2) := by
    intro st₀ t T' L2 h0 hL e3 hF
    refine ⟨by rw [e3]; exact Nat.le_trans hS.1 (by rw [← h0]; exact hF.1), fun q g1 g2 => ?_, fun z hz => ?_⟩
    · rw [e3, hF.2 q (by rw [h0]; exact Nat.lt_of_lt_of_le g1 hS.1) g2, h0]
      exact hS.2.1 q g1 g2
    · rcases List.mem_append.mp hz with w | w
      · exact hS.2.2 z w
      · exact hL z w
  rcases hr p e s m args below meth c H locs cells slots ls hB hR hS h ⟨by omega, by omega⟩ T hT hX with ⟨v, st₀, t, T', L2, h0, X', hL, e3, e4, ⟨⟨v', τ, hv, hRτ, hP⟩, hF⟩, hst⟩ | ⟨q, st₀, t, T', L2, E, ce, h0, X', hL, e3, e4, ⟨⟨τ, hRτ, hP⟩, hF⟩, hce, hcv, hcl, hst⟩
  · cases hv
    obtain ⟨t2, a1, b1⟩ := kR v τ hP p e s m args below meth c T'.heap (locs ++ L2) (cells + mc) (slots + ms) ls hB (by rw [e3]; exact hRτ) (key st₀ t T' L2 h0 hL e3 hF) h (by omega) (by omega) T' rfl X'
    exact ⟨t2, hst t2 a1, b1⟩
  · obtain ⟨t2, a1, b1⟩ := kT E q τ hP p e s m args below meth c T'.heap (locs ++ L2) (cells + mc) (slots + ms) ls ce hB (by rw [e3]; exact hRτ) (key st₀ t T' L2 h0 hL e3 hF) h (by omega) (by omega) (by rw [e3]; exact hce) hcv hcl T' rfl X'
    exact ⟨t2, hst.trans a1, b1⟩
theorem yPre {G : YG} {as : List Value} {σ : AH} {s : State} {H : Heap} {locs : List Loc} (hG : Glob G s) (hR : Rep G σ H) (hS : va_S (Afr G) s.heap H locs) : PreS s H (yPc G as σ) as :=
  ⟨yPc_blind, fun U hU hW => ⟨rfl, Glob.warm hW (by rw [hU]; exact hS.1) (fun a h1 h2 => by rw [hU]; exact hS.2.1 a h1 h2) hG, by rw [hU]; exact hR⟩⟩
abbrev dsc (y2 : MethodName) (m2 : Nat) : Prop := y2.cls ≠ "java/lang/invoke/MethodHandle" ∧ y2.cls ≠ "java/lang/invoke/VarHandle" ∧ (parseMethodDescriptor y2.desc).map (fun d => d.parameters.length) = some m2
theorem x_callV {y2 : MethodName} {c2 : ByteArray} {n2 : Nat} {r2 : Option FieldType} {d mc ms a ix : Nat} {as : List Value} {Pq : YR → AH → Prop} (hd : decode cc pc = .ok (.invokevirtual ix, 3)) (hC : Con l y2 c2 n2 r2 G d mc ms (.ref a :: as) σ Pq) (hw : GoodIn lw_all (wsV y.cls ix y2.cls y2 (ws_ y2 c2 n2 r2))) {np : Nat} (hds : dsc y2 np) (hnp : as.length = np) (hrc : rcv G σ y2.cls a)
    (hr : d + 1 ≤ R.frames ∧ 8 + (n2 + 11) + 64 * d ≤ R.locals) (hrest : (rest.map fun v => v.category).sum ≤ 8) (hst : st = as.reverse ++ .ref a :: rest) (hk : mc ≤ k) (hn : ms ≤ n) (kR : ∀ v τ, Pq (.inl v) τ → X l y cc nL ret hh G R Z (pc + 3) L (v.toList ++ rest) τ (k - mc) (n - ms)) (kT : ∀ E q τ, Pq (.inr (E, q)) τ → XT l y cc nL ret hh G R Z pc L rest E q τ (k - mc) (n - ms)) : X l y cc nL ret hh G R Z pc L st σ k n := by
  subst hst
  subst hnp
  refine x_run (av := (Value.ref a :: as).toArray) (mc := mc) (ms := ms) (pcn := pc + 3) ?_ hk hn kR kT
  intro p e s m args below meth c H locs cells slots ls hB hR hS h hf T hT hX
  have hG : Glob G s := hB.2.2.2.2.2.2.2.2.2
  have hts := hB.2.2.2.2.2.2.2.1
  have hp := yPre (as := .ref a :: as) hG hR hS
  exact vz_runV (As := as) (rest := rest) (g := F0 m pc ls (as.reverse ++ .ref a :: rest)) ⟨hB.1, hB.2.1, hB.2.2.2.2.1, hB.2.2.2.2.2.1, hts⟩ hC (cwV as.length hts hw rfl rfl rfl ⟨rfl, hds⟩ hr) ⟨hp.1, rcv_cell hG hR hS hrc, hp.2⟩ rfl rfl h.1 rfl (lv_room hrest) hd hf T hT hX
theorem x_callI {y2 : MethodName} {c2 : ByteArray} {n2 : Nat} {d mc ms a ix : Nat} {as : List Value} {Pq : YR → AH → Prop} (hd : decode cc pc = .ok (.invokespecial ix, 3)) (hC : Con l y2 c2 n2 none G d mc ms (.ref a :: as) σ Pq) (hw : GoodIn lw_all (ws_ y2 c2 n2 none)) (hq1 : Cond.initialized y2.cls ∈ lw_all) (hq2 : Cond.methodLink y.cls ix y2 ∈ lw_all) (hq3 : Cond.instanceMethod y2 ∈ lw_all) (hnm : y2.name = "<init>") {np : Nat} (hds : dsc y2 np) (hnp : as.length = np)
    (hr : d + 1 ≤ R.frames ∧ 8 + (n2 + 11) + 64 * d ≤ R.locals) (hrest : (rest.map fun v => v.category).sum ≤ 8) (hst : st = as.reverse ++ .ref a :: rest) (hk : mc ≤ k) (hn : ms ≤ n) (kR : ∀ v τ, Pq (.inl v) τ → X l y cc nL ret hh G R Z (pc + 3) L (v.toList ++ rest) τ (k - mc) (n - ms)) (kT : ∀ E q τ, Pq (.inr (E, q)) τ → XT l y cc nL ret hh G R Z pc L rest E q τ (k - mc) (n - ms)) : X l y cc nL ret hh G R Z pc L st σ k n := by
  subst hst
  subst hnp
  refine x_run (av := (Value.ref a :: as).toArray) (mc := mc) (ms := ms) (pcn := pc + 3) ?_ hk hn kR kT
  intro p e s m args below meth c H locs cells slots ls hB hR hS h hf T hT hX
  have hG : Glob G s := hB.2.2.2.2.2.2.2.2.2
  have hts := hB.2.2.2.2.2.2.2.1
  exact vz_runI (As := as) (rest := rest) (g := F0 m pc ls (as.reverse ++ .ref a :: rest)) ⟨hB.1, hB.2.1, hB.2.2.2.2.1, hB.2.2.2.2.2.1, hts⟩ hC (cwI as.length hts hw rfl rfl rfl (hts _ hq1) (hts _ hq2) (hts _ hq3) hnm hds hr) (yPre (as := .ref a :: as) hG hR hS) rfl rfl h.1 rfl (lv_room hrest) hd hf T hT hX
theorem x_callS {y2 : MethodName} {c2 : ByteArray} {n2 : Nat} {r2 : Option FieldType} {d mc ms ix : Nat} {as : List Value} {Pq : YR → AH → Prop} (hd : decode cc pc = .ok (.invokestatic ix, 3)) (hC : Con l y2 c2 n2 r2 G d mc ms as σ Pq) (hw : GoodIn lw_all (va_wsS y.cls ix y2 (ws_ y2 c2 n2 r2))) {np : Nat} (hds : dsc y2 np) (hnp : as.length = np)
    (hr : d + 1 ≤ R.frames ∧ 8 + (n2 + 11) + 64 * d ≤ R.locals) (hrest : (rest.map fun v => v.category).sum ≤ 8) (hst : st = as.reverse ++ rest) (hk : mc ≤ k) (hn : ms ≤ n) (kR : ∀ v τ, Pq (.inl v) τ → X l y cc nL ret hh G R Z (pc + 3) L (v.toList ++ rest) τ (k - mc) (n - ms)) (kT : ∀ E q τ, Pq (.inr (E, q)) τ → XT l y cc nL ret hh G R Z pc L rest E q τ (k - mc) (n - ms)) : X l y cc nL ret hh G R Z pc L st σ k n := by
  subst hst
  subst hnp
  refine x_run (av := as.toArray) (mc := mc) (ms := ms) (pcn := pc + 3) ?_ hk hn kR kT
  intro p e s m args below meth c H locs cells slots ls hB hR hS h hf T hT hX
  have hG : Glob G s := hB.2.2.2.2.2.2.2.2.2
  have hts := hB.2.2.2.2.2.2.2.1
  exact vz_runS (As := as) (rest := rest) (g := F0 m pc ls (as.reverse ++ rest)) ⟨hB.1, hB.2.1, hB.2.2.2.2.1, hB.2.2.2.2.2.1, hts⟩ hC (va_cwS as.length hts hw rfl rfl rfl hds hr) (yPre (as := as) hG hR hS) rfl rfl h.1 rfl (lv_room hrest) hd hf T hT hX
/-- nest mates' -/
theorem x_callVN {y2 : MethodName} {host : String} {c2 : ByteArray} {n2 : Nat} {r2 : Option FieldType} {d mc ms a ix : Nat} {as : List Value} {Pq : YR → AH → Prop} (hd : decode cc pc = .ok (.invokevirtual ix, 3)) (hC : Con l y2 c2 n2 r2 G d mc ms (.ref a :: as) σ Pq) (hw : GoodIn lw_all (ws_ y2 c2 n2 r2)) (hq1 : Cond.initialized y2.cls ∈ lw_all) (hq2 : Cond.methodLinkNest y.cls ix y2 host ∈ lw_tbl) (hq3 : Cond.instanceMethod y2 ∈ lw_all) (hq4 : Cond.selects y2.cls y2 y2 ∈ lw_all) {np : Nat} (hds : dsc y2 np) (hnp : as.length = np) (hrc : rcv G σ y2.cls a)
    (hr : d + 1 ≤ R.frames ∧ 8 + (n2 + 11) + 64 * d ≤ R.locals) (hrest : (rest.map fun v => v.category).sum ≤ 8) (hst : st = as.reverse ++ .ref a :: rest) (hk : mc ≤ k) (hn : ms ≤ n) (kR : ∀ v τ, Pq (.inl v) τ → X l y cc nL ret hh G R Z (pc + 3) L (v.toList ++ rest) τ (k - mc) (n - ms)) (kT : ∀ E q τ, Pq (.inr (E, q)) τ → XT l y cc nL ret hh G R Z pc L rest E q τ (k - mc) (n - ms)) : X l y cc nL ret hh G R Z pc L st σ k n := by
  subst hst
  subst hnp
  refine x_run (av := (Value.ref a :: as).toArray) (mc := mc) (ms := ms) (pcn := pc + 3) ?_ hk hn kR kT
  intro p e s m args below meth c H locs cells slots ls hB hR hS h hf T hT hX
  have hG : Glob G s := hB.2.2.2.2.2.2.2.2.2
  have hts := hB.2.2.2.2.2.2.2.1
  have hp := yPre (as := .ref a :: as) hG hR hS
  exact vz_runVN (As := as) (rest := rest) (g := F0 m pc ls (as.reverse ++ .ref a :: rest)) ⟨hB.1, hB.2.1, hB.2.2.2.2.1, hB.2.2.2.2.2.1, hts⟩ hC ⟨va_cnB as.length hts hw rfl rfl rfl (hG.2.1 _ hq2 rfl) (hts _ hq1) hds hr, hts _ hq3, hts _ hq4⟩ ⟨hp.1, rcv_cell hG hR hS hrc, hp.2⟩ rfl rfl h.1 rfl (lv_room hrest) hd hf T hT hX
theorem x_callSN {y2 : MethodName} {host : String} {c2 : ByteArray} {n2 : Nat} {r2 : Option FieldType} {d mc ms ix : Nat} {as : List Value} {Pq : YR → AH → Prop} (hd : decode cc pc = .ok (.invokestatic ix, 3)) (hC : Con l y2 c2 n2 r2 G d mc ms as σ Pq) (hw : GoodIn lw_all (ws_ y2 c2 n2 r2)) (hq1 : Cond.initialized y2.cls ∈ lw_all) (hq2 : Cond.methodLinkNest y.cls ix y2 host ∈ lw_tbl) (hq3 : Cond.static y2 ∈ lw_all) {np : Nat} (hds : dsc y2 np) (hnp : as.length = np)
    (hr : d + 1 ≤ R.frames ∧ 8 + (n2 + 11) + 64 * d ≤ R.locals) (hrest : (rest.map fun v => v.category).sum ≤ 8) (hst : st = as.reverse ++ rest) (hk : mc ≤ k) (hn : ms ≤ n) (kR : ∀ v τ, Pq (.inl v) τ → X l y cc nL ret hh G R Z (pc + 3) L (v.toList ++ rest) τ (k - mc) (n - ms)) (kT : ∀ E q τ, Pq (.inr (E, q)) τ → XT l y cc nL ret hh G R Z pc L rest E q τ (k - mc) (n - ms)) : X l y cc nL ret hh G R Z pc L st σ k n := by
  subst hst
  subst hnp
  refine x_run (av := as.toArray) (mc := mc) (ms := ms) (pcn := pc + 3) ?_ hk hn kR kT
  intro p e s m args below meth c H locs cells slots ls hB hR hS h hf T hT hX
  have hG : Glob G s := hB.2.2.2.2.2.2.2.2.2
  have hts := hB.2.2.2.2.2.2.2.1
  exact vz_runSN (As := as) (rest := rest) (g := F0 m pc ls (as.reverse ++ rest)) ⟨hB.1, hB.2.1, hB.2.2.2.2.1, hB.2.2.2.2.2.1, hts⟩ hC ⟨va_cnB as.length hts hw rfl rfl rfl (hG.2.1 _ hq2 rfl) (hts _ hq1) hds hr, hts _ hq3, trivial⟩ (yPre (as := as) hG hR hS) rfl rfl h.1 rfl (lv_room hrest) hd hf T hT hX
theorem x_callIN {y2 : MethodName} {host : String} {c2 : ByteArray} {n2 : Nat} {d mc ms a ix : Nat} {as : List Value} {Pq : YR → AH → Prop} (hd : decode cc pc = .ok (.invokespecial ix, 3)) (hC : Con l y2 c2 n2 none G d mc ms (.ref a :: as) σ Pq) (hw : GoodIn lw_all (ws_ y2 c2 n2 none)) (hq1 : Cond.initialized y2.cls ∈ lw_all) (hq2 : Cond.methodLinkNest y.cls ix y2 host ∈ lw_tbl) (hq3 : Cond.instanceMethod y2 ∈ lw_all) (hnm : y2.name = "<init>") {np : Nat} (hds : dsc y2 np) (hnp : as.length = np)
    (hr : d + 1 ≤ R.frames ∧ 8 + (n2 + 11) + 64 * d ≤ R.locals) (hrest : (rest.map fun v => v.category).sum ≤ 8) (hst : st = as.reverse ++ .ref a :: rest) (hk : mc ≤ k) (hn : ms ≤ n) (kR : ∀ v τ, Pq (.inl v) τ → X l y cc nL ret hh G R Z (pc + 3) L (v.toList ++ rest) τ (k - mc) (n - ms)) (kT : ∀ E q τ, Pq (.inr (E, q)) τ → XT l y cc nL ret hh G R Z pc L rest E q τ (k - mc) (n - ms)) : X l y cc nL ret hh G R Z pc L st σ k n := by
  subst hst
  subst hnp
  refine x_run (av := (Value.ref a :: as).toArray) (mc := mc) (ms := ms) (pcn := pc + 3) ?_ hk hn kR kT
  intro p e s m args below meth c H locs cells slots ls hB hR hS h hf T hT hX
  have hG : Glob G s := hB.2.2.2.2.2.2.2.2.2
  have hts := hB.2.2.2.2.2.2.2.1
  exact vz_runIN (As := as) (rest := rest) (g := F0 m pc ls (as.reverse ++ .ref a :: rest)) ⟨hB.1, hB.2.1, hB.2.2.2.2.1, hB.2.2.2.2.2.1, hts⟩ hC ⟨va_cnB as.length hts hw rfl rfl rfl (hG.2.1 _ hq2 rfl) (hts _ hq1) hds hr, hnm, hts _ hq3⟩ (yPre (as := .ref a :: as) hG hR hS) rfl rfl h.1 rfl (lv_room hrest) hd hf T hT hX
/-- inherited: x is named, the receiver's C selects y2 of owner -/
theorem x_callU {x2 y2 : MethodName} {C : String} {c2 : ByteArray} {n2 : Nat} {r2 : Option FieldType} {d mc ms a ix : Nat} {as : List Value} {Pq : YR → AH → Prop} (hd : decode cc pc = .ok (.invokevirtual ix, 3)) (hC : Con l y2 c2 n2 r2 G d mc ms (.ref a :: as) σ Pq) (hw : GoodIn lw_all (va_wsU y.cls ix C y2.cls x2 y2 (ws_ y2 c2 n2 r2))) (hyx : y2 = ⟨y2.cls, x2.name, x2.desc⟩) {np : Nat} (hds : y2.cls ≠ "java/lang/invoke/MethodHandle" ∧ y2.cls ≠ "java/lang/invoke/VarHandle" ∧ (parseMethodDescriptor x2.desc).map (fun d => d.parameters.length) = some np) (hnp : as.length = np) (hrc : rcv G σ C a)
    (hr : d + 1 ≤ R.frames ∧ 8 + (n2 + 11) + 64 * d ≤ R.locals) (hrest : (rest.map fun v => v.category).sum ≤ 8) (hst : st = as.reverse ++ .ref a :: rest) (hk : mc ≤ k) (hn : ms ≤ n) (kR : ∀ v τ, Pq (.inl v) τ → X l y cc nL ret hh G R Z (pc + 3) L (v.toList ++ rest) τ (k - mc) (n - ms)) (kT : ∀ E q τ, Pq (.inr (E, q)) τ → XT l y cc nL ret hh G R Z pc L rest E q τ (k - mc) (n - ms)) : X l y cc nL ret hh G R Z pc L st σ k n := by
  subst hst
  subst hnp
  refine x_run (av := (Value.ref a :: as).toArray) (mc := mc) (ms := ms) (pcn := pc + 3) ?_ hk hn kR kT
  intro p e s m args below meth c H locs cells slots ls hB hR hS h hf T hT hX
  have hG : Glob G s := hB.2.2.2.2.2.2.2.2.2
  have hts := hB.2.2.2.2.2.2.2.1
  have hp := yPre (as := .ref a :: as) hG hR hS
  exact vz_runU (As := as) (rest := rest) (g := F0 m pc ls (as.reverse ++ .ref a :: rest)) ⟨hB.1, hB.2.1, hB.2.2.2.2.1, hB.2.2.2.2.2.1, hts⟩ hC (va_cwU as.length hts hw rfl rfl rfl hyx hds hr) ⟨hp.1, rcv_cell hG hR hS hrc, hp.2⟩ rfl rfl h.1 rfl (lv_room hrest) hd hf T hT hX
/-- a method of a type above is named, and C has its own -/
theorem x_callO {x2 y2 : MethodName} {C owner : String} {c2 b0 : ByteArray} {n2 m0 : Nat} {r2 r0 : Option FieldType} {d mc ms a ix : Nat} {as : List Value} {Pq : YR → AH → Prop} (hd : decode cc pc = .ok (.invokevirtual ix, 3)) (hC : Con l y2 c2 n2 r2 G d mc ms (.ref a :: as) σ Pq) (hw : GoodIn lw_all (va_wsO y.cls ix C owner x2 y2 (ws_ y2 c2 n2 r2))) (h0 : Cond.code ⟨owner, x2.name, x2.desc⟩ b0 m0 r0 ∈ lw_all) {np : Nat} (hds : owner ≠ "java/lang/invoke/MethodHandle" ∧ owner ≠ "java/lang/invoke/VarHandle" ∧ (parseMethodDescriptor x2.desc).map (fun d => d.parameters.length) = some np) (hnp : as.length = np) (hrc : rcv G σ C a)
    (hr : d + 1 ≤ R.frames ∧ 8 + (n2 + 11) + 64 * d ≤ R.locals) (hrest : (rest.map fun v => v.category).sum ≤ 8) (hst : st = as.reverse ++ .ref a :: rest) (hk : mc ≤ k) (hn : ms ≤ n) (kR : ∀ v τ, Pq (.inl v) τ → X l y cc nL ret hh G R Z (pc + 3) L (v.toList ++ rest) τ (k - mc) (n - ms)) (kT : ∀ E q τ, Pq (.inr (E, q)) τ → XT l y cc nL ret hh G R Z pc L rest E q τ (k - mc) (n - ms)) : X l y cc nL ret hh G R Z pc L st σ k n := by
  subst hst
  subst hnp
  refine x_run (av := (Value.ref a :: as).toArray) (mc := mc) (ms := ms) (pcn := pc + 3) ?_ hk hn kR kT
  intro p e s m args below meth c H locs cells slots ls hB hR hS h hf T hT hX
  have hG : Glob G s := hB.2.2.2.2.2.2.2.2.2
  have hts := hB.2.2.2.2.2.2.2.1
  have hp := yPre (as := .ref a :: as) hG hR hS
  exact vz_runU (As := as) (rest := rest) (g := F0 m pc ls (as.reverse ++ .ref a :: rest)) ⟨hB.1, hB.2.1, hB.2.2.2.2.1, hB.2.2.2.2.2.1, hts⟩ hC (va_cwO as.length hts hw rfl rfl rfl h0 hds hr) ⟨hp.1, rcv_cell hG hR hS hrc, hp.2⟩ rfl rfl h.1 rfl (lv_room hrest) hd hf T hT hX
/-- super.m(..) -/
theorem x_callSU {y2 : MethodName} {C : String} {T0 : u_T} {N0 ci : Nat} {fs : List Value} {c2 : ByteArray} {n2 : Nat} {r2 : Option FieldType} {d mc ms a ix : Nat} {as : List Value} {Pq : YR → AH → Prop} (hd : decode cc pc = .ok (.invokespecial ix, 3)) (hC : Con l y2 c2 n2 r2 G d mc ms (.ref a :: as) σ Pq) (hw : GoodIn lw_all (va_wsSU y.cls ix y2 (ws_ y2 c2 n2 r2))) {np : Nat} (hds : y2.name ≠ "<init>" ∧ (parseMethodDescriptor y2.desc).map (fun d => d.parameters.length) = some np) (hnp : as.length = np) (hc : vCl[ci]? = some (C, T0, N0)) (ha : σ a = some (.inr (ci, fs)))
    (hr : d + 1 ≤ R.frames ∧ 8 + (n2 + 11) + 64 * d ≤ R.locals) (hrest : (rest.map fun v => v.category).sum ≤ 8) (hst : st = as.reverse ++ .ref a :: rest) (hk : mc ≤ k) (hn : ms ≤ n) (kR : ∀ v τ, Pq (.inl v) τ → X l y cc nL ret hh G R Z (pc + 3) L (v.toList ++ rest) τ (k - mc) (n - ms)) (kT : ∀ E q τ, Pq (.inr (E, q)) τ → XT l y cc nL ret hh G R Z pc L rest E q τ (k - mc) (n - ms)) : X l y cc nL ret hh G R Z pc L st σ k n := by
  subst hst
  subst hnp
  refine x_run (av := (Value.ref a :: as).toArray) (mc := mc) (ms := ms) (pcn := pc + 3) ?_ hk hn kR kT
  intro p e s m args below meth c H locs cells slots ls hB hR hS h hf T hT hX
  have hG : Glob G s := hB.2.2.2.2.2.2.2.2.2
  have hts := hB.2.2.2.2.2.2.2.1
  have hp := yPre (as := .ref a :: as) hG hR hS
  exact vz_runSU (As := as) (rest := rest) (g := F0 m pc ls (as.reverse ++ .ref a :: rest)) (hG.1.1 ci _ hc).2 ⟨hB.1, hB.2.1, hB.2.2.2.2.1, hB.2.2.2.2.2.1, hts⟩ hC (va_cwSU as.length hts hw rfl rfl rfl hds hr) ⟨hp.1, rcv_cell hG hR hS (rcv_of hc ha), hp.2⟩ rfl rfl h.1 rfl (lv_room hrest) hd hf T hT hX
/-- by an interface -/
theorem x_callF {x2 y2 : MethodName} {C : String} {T0 : u_T} {N0 ci : Nat} {fs : List Value} {c2 : ByteArray} {n2 : Nat} {r2 : Option FieldType} {d mc ms a ix cnt : Nat} {as : List Value} {Pq : YR → AH → Prop} (hd : decode cc pc = .ok (.invokeinterface ix cnt, 5)) (hC : Con l y2 c2 n2 r2 G d mc ms (.ref a :: as) σ Pq) (hw : GoodIn lw_all (va_wsF y.cls ix C x2 y2 (ws_ y2 c2 n2 r2))) (hf1 : Cond.declares x2 ∈ lw_tbl) (hf2 : Cond.interfaceMethod x2.cls x2.cls x2.name x2.desc ∈ lw_tbl) (hf3 : Cond.publicMethod y2 ∈ lw_tbl) (hf4 : Cond.unhidden C x2.name x2.desc ∈ lw_tbl) (hf5 : Cond.castable C x2.cls ∈ lw_tbl) {np : Nat} (hds : dsc x2 np) (hnp : as.length = np) (hc : vCl[ci]? = some (C, T0, N0)) (ha : σ a = some (.inr (ci, fs)))
    (hr : d + 1 ≤ R.frames ∧ 8 + (n2 + 11) + 64 * d ≤ R.locals) (hrest : (rest.map fun v => v.category).sum ≤ 8) (hst : st = as.reverse ++ .ref a :: rest) (hk : mc ≤ k) (hn : ms ≤ n) (kR : ∀ v τ, Pq (.inl v) τ → X l y cc nL ret hh G R Z (pc + 5) L (v.toList ++ rest) τ (k - mc) (n - ms)) (kT : ∀ E q τ, Pq (.inr (E, q)) τ → XT l y cc nL ret hh G R Z pc L rest E q τ (k - mc) (n - ms)) : X l y cc nL ret hh G R Z pc L st σ k n := by
  subst hst
  subst hnp
  refine x_run (av := (Value.ref a :: as).toArray) (mc := mc) (ms := ms) (pcn := pc + 5) ?_ hk hn kR kT
  intro p e s m args below meth c H locs cells slots ls hB hR hS h hf T hT hX
  have hG : Glob G s := hB.2.2.2.2.2.2.2.2.2
  have hts := hB.2.2.2.2.2.2.2.1
  have hp := yPre (as := .ref a :: as) hG hR hS
  have hF := hG.2.2.1 C x2 y2 ⟨hds.1, hds.2.1⟩ hf1 hf2 hf3 hf4 hf5
  exact vz_runF (As := as) (rest := rest) (g := F0 m pc ls (as.reverse ++ .ref a :: rest)) (hG.1.1 ci _ hc).2 ⟨hB.1, hB.2.1, hB.2.2.2.2.1, hB.2.2.2.2.2.1, hts⟩ hC (va_cwF as.length hts hw rfl rfl rfl hF hds hr) ⟨hp.1, rcv_cell hG hR hS (rcv_of hc ha), hp.2⟩ rfl rfl h.1 rfl (lv_room hrest) hd hf T hT hX
/-- methods with handlers -/
theorem x_callVW {y2 : MethodName} {c2 : ByteArray} {n2 : Nat} {r2 : Option FieldType} {h2 : List (Nat × Nat × Nat × Nat)} {d mc ms a ix : Nat} {as : List Value} {Pq : YR → AH → Prop} (hd : decode cc pc = .ok (.invokevirtual ix, 3)) (hC : ConW l y2 c2 n2 r2 h2 G d mc ms (.ref a :: as) σ Pq) (hw : GoodIn lw_all (wsV y.cls ix y2.cls y2 (wsW_ y2 c2 n2 r2 h2))) {np : Nat} (hds : dsc y2 np) (hnp : as.length = np) (hrc : rcv G σ y2.cls a)
    (hr : d + 1 ≤ R.frames ∧ 8 + (n2 + 11) + 64 * d ≤ R.locals) (hrest : (rest.map fun v => v.category).sum ≤ 8) (hst : st = as.reverse ++ .ref a :: rest) (hk : mc ≤ k) (hn : ms ≤ n) (kR : ∀ v τ, Pq (.inl v) τ → X l y cc nL ret hh G R Z (pc + 3) L (v.toList ++ rest) τ (k - mc) (n - ms)) (kT : ∀ E q τ, Pq (.inr (E, q)) τ → XT l y cc nL ret hh G R Z pc L rest E q τ (k - mc) (n - ms)) : X l y cc nL ret hh G R Z pc L st σ k n := by
  subst hst
  subst hnp
  refine x_run (av := (Value.ref a :: as).toArray) (mc := mc) (ms := ms) (pcn := pc + 3) ?_ hk hn kR kT
  intro p e s m args below meth c H locs cells slots ls hB hR hS h hf T hT hX
  have hG : Glob G s := hB.2.2.2.2.2.2.2.2.2
  have hts := hB.2.2.2.2.2.2.2.1
  have hp := yPre (as := .ref a :: as) hG hR hS
  exact vz_runVX (As := as) (rest := rest) (g := F0 m pc ls (as.reverse ++ .ref a :: rest)) ⟨hB.1, hB.2.1, hB.2.2.2.2.1, hB.2.2.2.2.2.1, hts⟩ hC (vz_cwVW as.length hts hw rfl rfl rfl ⟨rfl, hds⟩ hr) ⟨hp.1, rcv_cell hG hR hS hrc, hp.2⟩ rfl rfl h.1 rfl (lv_room hrest) hd hf T hT hX
end YROWS
section YENDS
variable {l : Launch} {y : MethodName} {cc : ByteArray} {nL : Nat} {ret : Option FieldType} {hh : List (Nat × Nat × Nat × Nat)} {G : YG} {R : Room} {Post : YR → AH → Prop} {pc : Nat} {L L' : List (Nat × Value)} {st rest : List Value} {σ : AH} {k n : Nat}
theorem x_ret {v : Option Value} {st : List Value} (hP : Post (.inl v) σ) (h : ∀ (p : Program) (e : Env) (s : State) (m : MethodId) (args : Array Value) (below : List Frame) (meth : Method) (c : Code) (H : Heap) (locs : List Loc) (ls : Array Slot), YB y cc nL ret hh G p s m args meth c → (∀ t : State, t.heap = H → s.WarmedH t.vm → yQ G Post args s (.returned v) t) → (∀ q ∈ locs, Afr G q.base) →
      W p l e R s m args below meth c H locs R.cells R.slots (MQ below (yQ G Post) args s R.cells R.slots (Afr G)) (F0 m pc ls st)) : X l y cc nL ret hh G R (yEnd G R Post) pc L st σ k n := by
  intro p e s m args below meth c H locs cells slots ls hB hR hS hl e1 e2
  refine W.widen (k := R.cells) (n := R.slots) (by omega) (by omega) (vz_ret ?_)
  exact h p e s m args below meth c H locs ls hB (fun t ht hW => ⟨⟨v, σ, rfl, by rw [ht]; exact hR, hP⟩, hS.F ht⟩) hS.2.2
theorem x_iret {v : Int32} (hd : decode cc pc = .ok (.ireturn, 1)) (hr : ret = some .int) (hP : Post (.inl (some (.int v))) σ) : X l y cc nL ret hh G R (yEnd G R Post) pc L [.int v] σ k n :=
  x_ret hP fun p e s m args below meth c H locs ls hB hq hf => W.iret hB.1 hB.2.1 (hB.2.2.1.trans hr) hq hf hd hB.2.2.2.1
theorem x_zret {v : Int32} {ty : FieldType} (hd : decode cc pc = .ok (.ireturn, 1)) (hr : ret = some ty) (hn : narrow ty (.int v) = .int v) (hP : Post (.inl (some (.int v))) σ) : X l y cc nL ret hh G R (yEnd G R Post) pc L [.int v] σ k n :=
  x_ret hP fun p e s m args below meth c H locs ls hB hq hf => W.zret hB.1 hB.2.1 (hB.2.2.1.trans hr) hn hq hf hd hB.2.2.2.1
theorem x_vret (hd : decode cc pc = .ok (.return_, 1)) (hr : ret = none) (hP : Post (.inl none) σ) : X l y cc nL ret hh G R (yEnd G R Post) pc L [] σ k n :=
  x_ret hP fun p e s m args below meth c H locs ls hB hq hf => W.vret hB.1 hB.2.1 (hB.2.2.1.trans hr) hq hf hd hB.2.2.2.1
theorem x_aret {v : Value} {ty : FieldType} (hd : decode cc pc = .ok (.areturn, 1)) (hr : ret = some ty) (ht : (∃ n, ty = .object n) ∨ ∃ t, ty = .array t) (hv : v = .null ∨ ∃ a, v = .ref a) (hP : Post (.inl (some v)) σ) : X l y cc nL ret hh G R (yEnd G R Post) pc L [v] σ k n :=
  x_ret hP fun p e s m args below meth c H locs ls hB hq hf => W.aret hB.1 hB.2.1 (hB.2.2.1.trans hr) ht hv hq hf hd hB.2.2.2.1
theorem x_dret {v : UInt64} (hd : decode cc pc = .ok (.dreturn, 1)) (hr : ret = some .double) (hP : Post (.inl (some (.double v))) σ) : X l y cc nL ret hh G R (yEnd G R Post) pc L [.double v] σ k n :=
  x_ret hP fun p e s m args below meth c H locs ls hB hq hf => W.dret hB.1 hB.2.1 (hB.2.2.1.trans hr) hq hf hd hB.2.2.2.1
theorem x_fret {v : UInt32} (hd : decode cc pc = .ok (.freturn, 1)) (hr : ret = some .float) (hP : Post (.inl (some (.float v))) σ) : X l y cc nL ret hh G R (yEnd G R Post) pc L [.float v] σ k n :=
  x_ret hP fun p e s m args below meth c H locs ls hB hq hf => W.fret hB.1 hB.2.1 (hB.2.2.1.trans hr) hq hf hd hB.2.2.2.1
end YENDS
section YTHROW
variable {l : Launch} {y : MethodName} {cc : ByteArray} {nL : Nat} {ret : Option FieldType} {hh : List (Nat × Nat × Nat × Nat)} {G : YG} {R : Room} {Z : YE} {Post : YR → AH → Prop} {pc : Nat} {L L' : List (Nat × Value)} {st rest : List Value} {σ : AH} {k n : Nat} {E : String} {q : Nat}
theorem x_athrow {ci N0 : Nat} {T0 : u_T} {fs : List Value} (hd : decode cc pc = .ok (.athrow, 1)) (hc : vCl[ci]? = some (E, T0, N0)) (ha : σ q = some (.inr (ci, fs))) (kk : XT l y cc nL ret hh G R Z pc L rest E q σ k n) : X l y cc nL ret hh G R Z pc L (.ref q :: rest) σ k n := by
  intro p e s m args below meth c H locs cells slots ls hB hR hS h e1 e2
  have hG : Glob G s := hB.2.2.2.2.2.2.2.2.2
  obtain ⟨ws, hm, hP, hD⟩ := id hR
  obtain ⟨i, hi⟩ := rep_at (hm _ _ ha)
  obtain ⟨r0, g1, cell, g2, g3, g4, -⟩ := hP i _ hi
  have hcl : s.vm.findClass E = some cell.cls := by rw [g3]; exact (hG.1.1 ci _ hc).2.1
  exact vz_athrow hB.1 hB.2.1 hd (kk p e s m args below meth c H locs cells slots ls cell hB hR hS h e1 e2 g2 g4 hcl)
/-- it goes on to the caller: no row of the table covers the place -/
theorem xt_out (ht : ∀ z ∈ tableOf hh, covers z pc = false) (hP : Post (.inr (E, q)) σ) : XT l y cc nL ret hh G R (yEnd G R Post) pc L st E q σ k n := by
  intro p e s m args below meth c H locs cells slots ls ce hB hR hS h e1 e2 h1 h2 h3
  refine vz_widen (k := R.cells) (n := R.slots) (by omega) (by omega) ?_
  exact vz_out (by rw [hB.2.2.2.2.2.2.2.2.1]; exact ht) hB.2.2.2.1 h1 h2 h3 (fun t ht2 _ => ⟨⟨σ, by rw [ht2]; exact hR, hP⟩, hS.F ht2⟩) hS.2.2 (Nat.le_refl _) (Nat.le_refl _)
theorem xt_outP (ht : ∀ z ∈ tableOf hh, covers z pc = false ∨ (z.catchType ≠ 0 ∧ ∃ nm : String, Cond.classLink y.cls z.catchType nm ∈ lw_all ∧ (E, nm) ∈ yNc)) (hP : Post (.inr (E, q)) σ) : XT l y cc nL ret hh G R (yEnd G R Post) pc L st E q σ k n := by
  intro p e s m args below meth c H locs cells slots ls ce hB hR hS h e1 e2 h1 h2 h3
  refine vz_widen (k := R.cells) (n := R.slots) (by omega) (by omega) ?_
  have hG : Glob G s := hB.2.2.2.2.2.2.2.2.2
  refine vz_outP hB.2.2.2.2.2.1 hB.2.2.2.1 (fun z hz => ?_) h1 h2 h3 (fun t ht2 _ => ⟨⟨σ, by rw [ht2]; exact hR, hP⟩, hS.F ht2⟩) hS.2.2 (Nat.le_refl _) (Nat.le_refl _)
  rw [hB.2.2.2.2.2.2.2.2.1] at hz
  rcases ht z hz with w | ⟨w, nm, w1, w2⟩
  · exact Or.inl w
  · exact Or.inr ⟨w, nm, hB.2.2.2.2.2.2.2.1 _ w1, hG.2.2.2.2.1 _ w2⟩
/-- caught by a row of the table -/
theorem xt_catch {nm : String} (pre : List ExceptionTableEntry) (z : ExceptionTableEntry) (suf : List ExceptionTableEntry) (hs : tableOf hh = pre ++ z :: suf) (hpass : ∀ w ∈ pre, covers w pc = false ∨ (w.catchType ≠ 0 ∧ ∃ nm : String, Cond.classLink y.cls w.catchType nm ∈ lw_all ∧ (E, nm) ∈ yNc)) (hz : covers z pc = true) (h0 : z.catchType ≠ 0) (hl : Cond.classLink y.cls z.catchType nm ∈ lw_all) (hca : Cond.castable E nm ∈ lw_tbl)
    (kk : X l y cc nL ret hh G R Z z.handlerPc L [.ref q] σ k n) : XT l y cc nL ret hh G R Z pc L st E q σ k n := by
  intro p e s m args below meth c H locs cells slots ls ce hB hR hS h e1 e2 h1 h2 h3
  have hG : Glob G s := hB.2.2.2.2.2.2.2.2.2
  refine vz_catch hB.2.2.2.2.2.1 pre z suf (by rw [hB.2.2.2.2.2.2.2.2.1]; exact hs) (fun w hw => ?_) hz h0 (hB.2.2.2.2.2.2.2.1 _ hl) ((hG.2.1 _ hca rfl).use rfl) h1 h2 h3 (kk p e s m args below meth c H locs cells slots ls hB hR hS h e1 e2)
  rcases hpass w hw with g | ⟨g, nm, g1, g2⟩
  · exact Or.inl g
  · exact Or.inr ⟨g, nm, hB.2.2.2.2.2.2.2.1 _ g1, hG.2.2.2.2.1 _ g2⟩
end YTHROW
