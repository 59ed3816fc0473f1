set_option maxRecDepth 100000
-- ===== facts of a map across steps =====
def Fr (W : Nat → Prop) (σ τ : AH) : Prop := (∀ q e, σ q = some e → ¬ W q → τ q = some e) ∧ (∀ q, σ q ≠ none → τ q ≠ none) ∧ ∀ q e, σ q = some e → imm (tag e) = true → τ q = some e
def RO (σ τ : AH) : Prop := ∀ q e, σ q = some e → τ q = some e
theorem RO.rf {σ : AH} : RO σ σ := fun _ _ h => h
theorem RO.tr {σ τ υ : AH} (h1 : RO σ τ) (h2 : RO τ υ) : RO σ υ := fun q e h => h2 q e (h1 q e h)
theorem RO.fr {W : Nat → Prop} {σ τ : AH} (h : RO σ τ) : Fr W σ τ := by
  refine ⟨fun q e h1 _ => h q e h1, fun q h1 => ?_, fun q e h1 _ => h q e h1⟩
  cases h2 : σ q with
  | none => exact absurd h2 h1
  | some e => rw [h q e h2]; exact fun z => by cases z
theorem Fr.rf {W : Nat → Prop} {σ : AH} : Fr W σ σ := RO.rf.fr
theorem Fr.ro {σ τ : AH} (h : Fr (fun _ => False) σ τ) : RO σ τ := fun q e h1 => h.1 q e h1 (fun z => z)
theorem Fr.nn {W : Nat → Prop} {σ τ : AH} (h : Fr W σ τ) {q : Nat} (hq : τ q = none) : σ q = none := by
  cases h2 : σ q with
  | none => rfl
  | some e => exact absurd hq (h.2.1 q (by rw [h2]; exact fun z => by cases z))
theorem RO.nn {σ τ : AH} (h : RO σ τ) {q : Nat} (hq : τ q = none) : σ q = none := Fr.nn (W := fun _ => False) h.fr hq
/-- one after the other: what the later one writes is the earlier one's, or was not there at first -/
theorem Fr.tr {W W' : Nat → Prop} {σ τ υ : AH} (h1 : Fr W σ τ) (h2 : Fr W' τ υ) (hw : ∀ q, W' q → W q ∨ σ q = none) : Fr W σ υ := by
  refine ⟨fun q e h hn => ?_, fun q h => h2.2.1 q (h1.2.1 q h), fun q e h hi => h2.2.2 q e (h1.2.2 q e h hi) hi⟩
  refine h2.1 q e (h1.1 q e h hn) (fun z => ?_)
  rcases hw q z with w | w
  · exact hn w
  · rw [h] at w; cases w
theorem Fr.tr_ro {W : Nat → Prop} {σ τ υ : AH} (h1 : Fr W σ τ) (h2 : RO τ υ) : Fr W σ υ := h1.tr (W' := fun _ => False) h2.fr (fun _ z => z.elim)
theorem Fr.mono {W W' : Nat → Prop} {σ τ : AH} (h : Fr W σ τ) (hw : ∀ q, W q → W' q ∨ σ q = none) : Fr W' σ τ := Fr.tr (Fr.rf) h hw
/-- a cell is written -/
theorem Fr.put {W : Nat → Prop} {σ τ υ : AH} {a : Nat} {e1 : Ent} (h : Fr W σ τ) (h1 : υ a = some e1) (h2 : ∀ q, q ≠ a → υ q = τ q) (hw : (W a ∧ ∀ e, τ a = some e → imm (tag e) = false) ∨ σ a = none) : Fr W σ υ := by
  refine ⟨fun q e hq hn => ?_, fun q hq => ?_, fun q e hq hi => ?_⟩
  · by_cases hqa : q = a
    · subst hqa
      rcases hw with ⟨w, -⟩ | w
      · exact absurd w hn
      · rw [hq] at w; cases w
    · rw [h2 q hqa]; exact h.1 q e hq hn
  · by_cases hqa : q = a
    · subst hqa; rw [h1]; exact fun z => by cases z
    · rw [h2 q hqa]; exact h.2.1 q hq
  · by_cases hqa : q = a
    · subst hqa
      rcases hw with ⟨-, w⟩ | w
      · rw [w e (h.2.2 q e hq hi)] at hi; cases hi
      · rw [hq] at w; cases w
    · rw [h2 q hqa]; exact h.2.2 q e hq hi
/-- a cell is made -/
theorem ro_new {σ τ : AH} {a : Nat} (hn : σ a = none) (h2 : ∀ q, q ≠ a → τ q = σ q) : RO σ τ := fun q e hq => by
  by_cases hqa : q = a
  · subst hqa; rw [hn] at hq; cases hq
  · rw [h2 q hqa]; exact hq
theorem cell_ne {σ : AH} {a b : Nat} {ea eb : Ent} (ha : σ a = some ea) (hb : σ b = some eb) (h : Nat.beq (tag eb) (tag ea) = false) : b ≠ a := fun z => by
  subst z
  rw [ha] at hb
  cases hb
  exact absurd (Nat.beq_refl (tag ea)) (by rw [h]; exact fun z => by cases z)
theorem cell_nn {σ : AH} {a b : Nat} {eb : Ent} (ha : σ a = none) (hb : σ b = some eb) : b ≠ a := fun z => by
  subst z; rw [ha] at hb; cases hb
/-- a cell stays: another one is written -/
theorem at_put {σ τ : AH} {a b : Nat} {e : Ent} (h2 : ∀ q, q ≠ a → τ q = σ q) (hb : σ b = some e) (hn : b ≠ a) : τ b = some e := by rw [h2 b hn]; exact hb
def rcv (G : YG) (σ : AH) (C : String) (b : Nat) : Prop := (∃ ci T N fs, vCl[ci]? = some (C, T, N) ∧ σ b = some (.inr (ci, fs))) ∨ Koc G C b
theorem rcv_of {G : YG} {σ : AH} {C : String} {T : u_T} {N ci b : Nat} {fs : List Value} (hc : vCl[ci]? = some (C, T, N)) (h : σ b = some (.inr (ci, fs))) : rcv G σ C b := Or.inl ⟨ci, T, N, fs, hc, h⟩
section YROWS
variable {l : Launch} {y : MethodName} {cc : ByteArray} {nL : Nat} {ret : Option FieldType} {hh : List (Nat × Nat × Nat × Nat)} {G : YG} {R : Room} {Z : YE} {pc : Nat} {L L' : List (Nat × Value)} {st rest : List Value} {σ : AH} {k n : Nat}
theorem rcv_cell {s : State} {H : Heap} {locs : List Loc} {C : String} {b : Nat} (hG : Glob G s) (hR : Rep G σ H) (hS : va_S (Afr G) s.heap H locs) (h : rcv G σ C b) : ∃ cell : Cell, H[b]? = some cell ∧ cell.vm.isStatics = false ∧ s.vm.findClass C = some cell.cls := by
  rcases h with ⟨ci, T, N, fs, hc, hb⟩ | h
  · obtain ⟨ws, hm, hP, hD⟩ := hR
    obtain ⟨i, hi⟩ := rep_at (hm _ _ hb)
    exact va_recv hG.1 hP hc hi
  · obtain ⟨cell, h1, h2, h3, h4⟩ := hG.2.2.2.2.2.2.2.1 C b h
    exact ⟨cell, by rw [hS.2.1 b (Array.getElem?_eq_some_iff.mp h1).1 h4]; exact h1, h2, h3⟩
theorem hA_Afr {s : State} (hG : Glob G s) : ∀ q, s.heap.size ≤ q → Afr G q := fun q h => Nat.le_trans hG.2.2.2.2.2.2.2.2.2.2.2.2.1 h
theorem x_get {C : String} {T : u_T} {N ci ix a : Nat} {fs : List Value} {v : Value} (hd : decode cc pc = .ok (.getfield ix, 3)) (hc : vCl[ci]? = some (C, T, N)) (hin : ∀ w ∈ u_ws C T N, w ∈ lw_all) (hr : σ a = some (.inr (ci, fs))) (j : Nat) (hj : j < N) (hl : Cond.fieldLink y.cls ix (T j).1 (T j).2.1 (T j).2.2.1 ∈ lw_all) (hv : fs[j]? = some v)
    (kk : X l y cc nL ret hh G R Z (pc + 3) L (v :: rest) σ k n) : X l y cc nL ret hh G R Z pc L (.ref a :: rest) σ k n := by
  intro p e s m args below meth c H locs cells slots ls hB hR hS h e1 e2
  obtain ⟨ws, hm, hP, hD⟩ := id hR
  obtain ⟨i, hi⟩ := rep_at (hm _ _ hr)
  exact va_get hB.1 hB.2.1 hB.2.2.2.2.2.2.2.1 hin hB.2.2.2.2.2.1 hB.2.2.2.2.2.2.2.2.2.1 hP i hi hc j hj (hB.2.2.2.2.2.2.2.1 _ hl) (fun _ h => h) hv hd (kk p e s m args below meth c H locs cells slots ls hB hR hS h e1 e2)
/-- the same, the field named by another type that has it -/
theorem x_getS {C ref : String} {T : u_T} {N ci ix a : Nat} {fs : List Value} {v : Value} (hd : decode cc pc = .ok (.getfield ix, 3)) (hc : vCl[ci]? = some (C, T, N)) (hin : ∀ w ∈ u_ws C T N, w ∈ lw_all) (hr : σ a = some (.inr (ci, fs))) (j : Nat) (hj : j < N) (hl : Cond.fieldLink y.cls ix ref (T j).2.1 (T j).2.2.1 ∈ lw_all) (hs : Cond.sameField ref (T j).1 (T j).2.1 (T j).2.2.1 ∈ lw_all) (hv : fs[j]? = some v)
    (kk : X l y cc nL ret hh G R Z (pc + 3) L (v :: rest) σ k n) : X l y cc nL ret hh G R Z pc L (.ref a :: rest) σ k n := by
  intro p e s m args below meth c H locs cells slots ls hB hR hS h e1 e2
  obtain ⟨ws, hm, hP, hD⟩ := id hR
  obtain ⟨i, hi⟩ := rep_at (hm _ _ hr)
  exact va_get hB.1 hB.2.1 hB.2.2.2.2.2.2.2.1 hin hB.2.2.2.2.2.1 hB.2.2.2.2.2.2.2.2.2.1 hP i hi hc j hj (hB.2.2.2.2.2.2.2.1 _ hl) (fun x hx => u_same (hB.2.2.2.2.2.2.2.1 _ hs) x hx) hv hd (kk p e s m args below meth c H locs cells slots ls hB hR hS h e1 e2)
/-- a nest mate's field -/
theorem x_getN {C host : String} {T : u_T} {N ci ix a : Nat} {fs : List Value} {v : Value} (hd : decode cc pc = .ok (.getfield ix, 3)) (hc : vCl[ci]? = some (C, T, N)) (hin : ∀ w ∈ u_ws C T N, w ∈ lw_all) (hr : σ a = some (.inr (ci, fs))) (j : Nat) (hj : j < N) (hl : Cond.fieldLinkNest y.cls ix (T j).1 (T j).2.1 (T j).2.2.1 host ∈ lw_tbl) (hv : fs[j]? = some v)
    (kk : X l y cc nL ret hh G R Z (pc + 3) L (v :: rest) σ k n) : X l y cc nL ret hh G R Z pc L (.ref a :: rest) σ k n := by
  intro p e s m args below meth c H locs cells slots ls hB hR hS h e1 e2
  obtain ⟨ws, hm, hP, hD⟩ := id hR
  obtain ⟨i, hi⟩ := rep_at (hm _ _ hr)
  have hG : Glob G s := hB.2.2.2.2.2.2.2.2.2
  exact va_getN hB.1 hB.2.1 hB.2.2.2.2.2.2.2.1 hin hB.2.2.2.2.2.1 hG.1 hP i hi hc j hj ((hG.2.1 _ hl rfl).use rfl) (fun _ h => h) hv hd (kk p e s m args below meth c H locs cells slots ls hB hR hS h e1 e2)
theorem x_put {C : String} {T : u_T} {N ci ix a : Nat} {fs fs' : List Value} {v : Value} {t0 : Nat → FieldType} {ty : FieldType} (hd : decode cc pc = .ok (.putfield ix, 3)) (hc : vCl[ci]? = some (C, T, N)) (hin : ∀ w ∈ u_ws C T N, w ∈ lw_all) (ht0 : ∀ k, k < N → parseFieldDescriptor (T k).2.2.1 = some (t0 k)) (hnm : ∀ a, a < N → ∀ b, b < N → a ≠ b → (T a).2.1 ≠ (T b).2.1)
    (hr : σ a = some (.inr (ci, fs))) (j : Nat) (hj : j < N) (hl : Cond.fieldLink y.cls ix (T j).1 (T j).2.1 (T j).2.2.1 ∈ lw_all) (hfin : (T j).2.2.2 = false) (hty : t0 j = ty) (hn : narrow ty v = v) (hfit : fits ty v = true) (hlen : j < fs.length) (hf : fs.set j v = fs')
    (kk : ∀ τ : AH, τ a = some (.inr (ci, fs')) → (∀ q, q ≠ a → τ q = σ q) → X l y cc nL ret hh G R Z (pc + 3) L rest τ k n) : X l y cc nL ret hh G R Z pc L (v :: .ref a :: rest) σ k n := by
  intro p e s m args below meth c H locs cells slots ls hB hR hS h e1 e2
  obtain ⟨ws, hm, hP, hD⟩ := id hR
  obtain ⟨i, hi⟩ := rep_at (hm _ _ hr)
  subst hf
  refine va_put hB.1 hB.2.1 hB.2.2.2.2.2.2.2.1 hin t0 ht0 hnm hB.2.2.2.2.2.1 hB.2.2.2.2.2.2.2.2.2.1 hP hD hS i hi hc j hj (hB.2.2.2.2.2.2.2.1 _ hl) (fun _ h => h) hfin (by rw [ht0 j hj, hty]) hn hfit hlen hd (fun H1 locs1 hP1 hD1 hS1 => ?_)
  exact kk (up σ a (.inr (ci, fs.set j v))) up_self (fun q hq => up_ne hq) p e s m args below meth c H1 locs1 cells slots ls hB (rep_set hm hi hD hP1 hD1) hS1 h e1 e2
theorem x_putS {C ref : String} {T : u_T} {N ci ix a : Nat} {fs fs' : List Value} {v : Value} {t0 : Nat → FieldType} {ty : FieldType} (hd : decode cc pc = .ok (.putfield ix, 3)) (hc : vCl[ci]? = some (C, T, N)) (hin : ∀ w ∈ u_ws C T N, w ∈ lw_all) (ht0 : ∀ k, k < N → parseFieldDescriptor (T k).2.2.1 = some (t0 k)) (hnm : ∀ a, a < N → ∀ b, b < N → a ≠ b → (T a).2.1 ≠ (T b).2.1)
    (hr : σ a = some (.inr (ci, fs))) (j : Nat) (hj : j < N) (hl : Cond.fieldLink y.cls ix ref (T j).2.1 (T j).2.2.1 ∈ lw_all) (hs : Cond.sameField ref (T j).1 (T j).2.1 (T j).2.2.1 ∈ lw_all) (hfin : (T j).2.2.2 = false) (hty : t0 j = ty) (hn : narrow ty v = v) (hfit : fits ty v = true) (hlen : j < fs.length) (hf : fs.set j v = fs')
    (kk : ∀ τ : AH, τ a = some (.inr (ci, fs')) → (∀ q, q ≠ a → τ q = σ q) → X l y cc nL ret hh G R Z (pc + 3) L rest τ k n) : X l y cc nL ret hh G R Z pc L (v :: .ref a :: rest) σ k n := by
  intro p e s m args below meth c H locs cells slots ls hB hR hS h e1 e2
  obtain ⟨ws, hm, hP, hD⟩ := id hR
  obtain ⟨i, hi⟩ := rep_at (hm _ _ hr)
  subst hf
  refine va_put hB.1 hB.2.1 hB.2.2.2.2.2.2.2.1 hin t0 ht0 hnm hB.2.2.2.2.2.1 hB.2.2.2.2.2.2.2.2.2.1 hP hD hS i hi hc j hj (hB.2.2.2.2.2.2.2.1 _ hl) (fun x hx => u_same (hB.2.2.2.2.2.2.2.1 _ hs) x hx) hfin (by rw [ht0 j hj, hty]) hn hfit hlen hd (fun H1 locs1 hP1 hD1 hS1 => ?_)
  exact kk (up σ a (.inr (ci, fs.set j v))) up_self (fun q hq => up_ne hq) p e s m args below meth c H1 locs1 cells slots ls hB (rep_set hm hi hD hP1 hD1) hS1 h e1 e2
theorem x_putN {C host : String} {T : u_T} {N ci ix a : Nat} {fs fs' : List Value} {v : Value} {t0 : Nat → FieldType} {ty : FieldType} (hd : decode cc pc = .ok (.putfield ix, 3)) (hc : vCl[ci]? = some (C, T, N)) (hin : ∀ w ∈ u_ws C T N, w ∈ lw_all) (ht0 : ∀ k, k < N → parseFieldDescriptor (T k).2.2.1 = some (t0 k)) (hnm : ∀ a, a < N → ∀ b, b < N → a ≠ b → (T a).2.1 ≠ (T b).2.1)
    (hr : σ a = some (.inr (ci, fs))) (j : Nat) (hj : j < N) (hl : Cond.fieldLinkNest y.cls ix (T j).1 (T j).2.1 (T j).2.2.1 host ∈ lw_tbl) (hfin : (T j).2.2.2 = false) (hty : t0 j = ty) (hn : narrow ty v = v) (hfit : fits ty v = true) (hlen : j < fs.length) (hf : fs.set j v = fs')
    (kk : ∀ τ : AH, τ a = some (.inr (ci, fs')) → (∀ q, q ≠ a → τ q = σ q) → X l y cc nL ret hh G R Z (pc + 3) L rest τ k n) : X l y cc nL ret hh G R Z pc L (v :: .ref a :: rest) σ k n := by
  intro p e s m args below meth c H locs cells slots ls hB hR hS h e1 e2
  obtain ⟨ws, hm, hP, hD⟩ := id hR
  obtain ⟨i, hi⟩ := rep_at (hm _ _ hr)
  have hG : Glob G s := hB.2.2.2.2.2.2.2.2.2
  subst hf
  refine va_putN hB.1 hB.2.1 hB.2.2.2.2.2.2.2.1 hin t0 ht0 hnm hB.2.2.2.2.2.1 hG.1 hP hD hS i hi hc j hj ((hG.2.1 _ hl rfl).use rfl) (fun _ h => h) hfin (by rw [ht0 j hj, hty]) hn hfit hlen hd (fun H1 locs1 hP1 hD1 hS1 => ?_)
  exact kk (up σ a (.inr (ci, fs.set j v))) up_self (fun q hq => up_ne hq) p e s m args below meth c H1 locs1 cells slots ls hB (rep_set hm hi hD hP1 hD1) hS1 h e1 e2
/-- a final field, in its maker -/
theorem x_putF {C : String} {T : u_T} {N ci ix a : Nat} {fs fs' : List Value} {v : Value} {t0 : Nat → FieldType} {ty : FieldType} (hd : decode cc pc = .ok (.putfield ix, 3)) (hc : vCl[ci]? = some (C, T, N)) (hin : ∀ w ∈ u_ws C T N, w ∈ lw_all) (ht0 : ∀ k, k < N → parseFieldDescriptor (T k).2.2.1 = some (t0 k)) (hnm : ∀ a, a < N → ∀ b, b < N → a ≠ b → (T a).2.1 ≠ (T b).2.1)
    (hr : σ a = some (.inr (ci, fs))) (j : Nat) (hj : j < N) (hl : Cond.fieldLink y.cls ix (T j).1 (T j).2.1 (T j).2.2.1 ∈ lw_all) (hfin : (T j).2.2.2 = true) (hi2 : y.name = "<init>") (hdc : (T j).1 = y.cls) (hty : t0 j = ty) (hn : narrow ty v = v) (hfit : fits ty v = true) (hlen : j < fs.length) (hf : fs.set j v = fs')
    (kk : ∀ τ : AH, τ a = some (.inr (ci, fs')) → (∀ q, q ≠ a → τ q = σ q) → X l y cc nL ret hh G R Z (pc + 3) L rest τ k n) : X l y cc nL ret hh G R Z pc L (v :: .ref a :: rest) σ k n := by
  intro p e s m args below meth c H locs cells slots ls hB hR hS h e1 e2
  obtain ⟨ws, hm, hP, hD⟩ := id hR
  obtain ⟨i, hi⟩ := rep_at (hm _ _ hr)
  subst hf
  refine va_putF hB.1 hB.2.1 hB.2.2.2.2.2.2.2.1 hin t0 ht0 hnm hB.2.2.2.2.2.1 hB.2.2.2.2.2.2.2.2.2.1 hP hD hS i hi hc j hj (hB.2.2.2.2.2.2.2.1 _ hl) (fun _ h => h) hfin (by rw [hB.2.2.2.2.2.2.1.1]; exact hi2) hdc (by rw [ht0 j hj, hty]) hn hfit hlen hd (fun H1 locs1 hP1 hD1 hS1 => ?_)
  exact kk (up σ a (.inr (ci, fs.set j v))) up_self (fun q hq => up_ne hq) p e s m args below meth c H1 locs1 cells slots ls hB (rep_set hm hi hD hP1 hD1) hS1 h e1 e2
theorem x_new {C : String} {T : u_T} {N ci ix : Nat} {fs : List Value} {t0 : Nat → FieldType} (hd : decode cc pc = .ok (.new ix, 3)) (hc : vCl[ci]? = some (C, T, N)) (hin : ∀ w ∈ u_ws C T N, w ∈ lw_all) (ht0 : ∀ k, k < N → parseFieldDescriptor (T k).2.2.1 = some (t0 k)) (hcl : Cond.classLink y.cls ix C ∈ lw_all) (hinst : Cond.instantiable C N ∈ lw_all) (hini : Cond.initialized C ∈ lw_all)
    (hfs : (List.range N).map (fun j => defaultValue (t0 j)) = fs) (hk : 1 ≤ k) (hn : N ≤ n)
    (kk : ∀ (a : Nat) (τ : AH), σ a = none → gb G ≤ a → τ a = some (.inr (ci, fs)) → (∀ q, q ≠ a → τ q = σ q) → X l y cc nL ret hh G R Z (pc + 3) L (.ref a :: rest) τ (k - 1) (n - N)) : X l y cc nL ret hh G R Z pc L rest σ k n := by
  intro p e s m args below meth c H locs cells slots ls hB hR hS h e1 e2
  obtain ⟨ws, hm, hP, hD⟩ := id hR
  have hG : Glob G s := hB.2.2.2.2.2.2.2.2.2
  have hts := hB.2.2.2.2.2.2.2.1
  refine va_new (fs := fs) hB.1 hB.2.1 hts hin t0 ht0 hB.2.2.2.2.2.1 (hts _ hcl) (hts _ hinst) (hts _ hini) hG.1 hP hD hS (hA_Afr hG) hc ?_ (by omega) (by omega) hd (fun q H1 hP1 hD1 hS1 => ?_)
  · intro j hj
    subst hfs
    simp [vp_V, hj]
  · obtain ⟨g1, g2, g3⟩ := rep_push (e := .inr (ci, fs)) hm hP1 hD1
    exact kk q _ g2 g3 up_self (fun z hz => up_ne hz) p e s m args below meth c H1 locs (cells + 1) (slots + N) ls hB g1 hS1 h (by omega) (by omega)
-- ===== arrays =====
theorem x_alen {kd N a q0 : Nat} {x : vp_A} {v : Int32} {ty : FieldType} (hd : decode cc pc = .ok (.arraylength, 1)) (hr : σ a = some (.inl (kd, x))) (ht : (yTys G)[q0]? = some (gA G kd, ty)) (hv : Int32.ofNat x.1 = v) (kk : X l y cc nL ret hh G R Z (pc + 1) L (.int v :: rest) σ k n) : X l y cc nL ret hh G R Z pc L (.ref a :: rest) σ k n := by
  intro p e s m args below meth c H locs cells slots ls hB hR hS h e1 e2
  obtain ⟨ws, hm, hP, hD⟩ := id hR
  obtain ⟨i, hi⟩ := rep_at (hm _ _ hr)
  exact va_alen hB.1 hB.2.1 hB.2.2.2.2.2.2.2.2.2.1 hP i q0 hi ht hv hd (kk p e s m args below meth c H locs cells slots ls hB hR hS h e1 e2)
theorem x_iald {N a j : Nat} {f : Nat → Int32} {x v : Int32} (hd : decode cc pc = .ok (.iaload, 1)) (hr : σ a = some (.inl (0, N, .inl f))) (hx : x = nI j) (hj : j < N) (hN : N < 2 ^ 31) (hv : f j = v) (kk : X l y cc nL ret hh G R Z (pc + 1) L (.int v :: rest) σ k n) : X l y cc nL ret hh G R Z pc L (.int x :: .ref a :: rest) σ k n := by
  intro p e s m args below meth c H locs cells slots ls hB hR hS h e1 e2
  obtain ⟨ws, hm, hP, hD⟩ := id hR
  obtain ⟨i, hi⟩ := rep_at (hm _ _ hr)
  subst hx
  subst hv
  refine va_iald hB.1 hB.2.1 hB.2.2.2.2.2.2.2.2.2.1 hP i 0 hi rfl (vp_in_nI hj hN) hd ?_
  rw [nI_clamp (Nat.lt_trans hj hN)]
  exact kk p e s m args below meth c H locs cells slots ls hB hR hS h e1 e2
theorem x_sald {N a j : Nat} {f : Nat → Int32} {x v : Int32} (hd : decode cc pc = .ok (.saload, 1)) (hr : σ a = some (.inl (1, N, .inl f))) (hx : x = nI j) (hj : j < N) (hN : N < 2 ^ 31) (hv : f j = v) (kk : X l y cc nL ret hh G R Z (pc + 1) L (.int v :: rest) σ k n) : X l y cc nL ret hh G R Z pc L (.int x :: .ref a :: rest) σ k n := by
  intro p e s m args below meth c H locs cells slots ls hB hR hS h e1 e2
  obtain ⟨ws, hm, hP, hD⟩ := id hR
  obtain ⟨i, hi⟩ := rep_at (hm _ _ hr)
  subst hx
  subst hv
  refine va_sald hB.1 hB.2.1 hB.2.2.2.2.2.2.2.2.2.1 hP i 1 hi rfl (vp_in_nI hj hN) hd ?_
  rw [nI_clamp (Nat.lt_trans hj hN)]
  exact kk p e s m args below meth c H locs cells slots ls hB hR hS h e1 e2
theorem x_zald {N a j : Nat} {f : Nat → Int32} {x v : Int32} (hd : decode cc pc = .ok (.baload, 1)) (hr : σ a = some (.inl (2, N, .inl f))) (hx : x = nI j) (hj : j < N) (hN : N < 2 ^ 31) (hv : f j = v) (kk : X l y cc nL ret hh G R Z (pc + 1) L (.int v :: rest) σ k n) : X l y cc nL ret hh G R Z pc L (.int x :: .ref a :: rest) σ k n := by
  intro p e s m args below meth c H locs cells slots ls hB hR hS h e1 e2
  obtain ⟨ws, hm, hP, hD⟩ := id hR
  obtain ⟨i, hi⟩ := rep_at (hm _ _ hr)
  subst hx
  subst hv
  refine va_zald hB.1 hB.2.1 hB.2.2.2.2.2.2.2.2.2.1 hP i 2 hi rfl (vp_in_nI hj hN) hd ?_
  rw [nI_clamp (Nat.lt_trans hj hN)]
  exact kk p e s m args below meth c H locs cells slots ls hB hR hS h e1 e2
theorem x_bald {N a j : Nat} {f : Nat → Int32} {x v : Int32} (hd : decode cc pc = .ok (.baload, 1)) (hr : σ a = some (.inl (3, N, .inl f))) (hx : x = nI j) (hj : j < N) (hN : N < 2 ^ 31) (hv : f j = v) (kk : X l y cc nL ret hh G R Z (pc + 1) L (.int v :: rest) σ k n) : X l y cc nL ret hh G R Z pc L (.int x :: .ref a :: rest) σ k n := by
  intro p e s m args below meth c H locs cells slots ls hB hR hS h e1 e2
  obtain ⟨ws, hm, hP, hD⟩ := id hR
  obtain ⟨i, hi⟩ := rep_at (hm _ _ hr)
  subst hx
  subst hv
  refine va_bald hB.1 hB.2.1 hB.2.2.2.2.2.2.2.2.2.1 hP i 3 hi rfl (vp_in_nI hj hN) hd ?_
  rw [nI_clamp (Nat.lt_trans hj hN)]
  exact kk p e s m args below meth c H locs cells slots ls hB hR hS h e1 e2
theorem x_cald {N a j : Nat} {f : Nat → Int32} {x v : Int32} (hd : decode cc pc = .ok (.caload, 1)) (hr : σ a = some (.inl (4, N, .inl f))) (hx : x = nI j) (hj : j < N) (hN : N < 2 ^ 31) (hv : f j = v) (kk : X l y cc nL ret hh G R Z (pc + 1) L (.int v :: rest) σ k n) : X l y cc nL ret hh G R Z pc L (.int x :: .ref a :: rest) σ k n := by
  intro p e s m args below meth c H locs cells slots ls hB hR hS h e1 e2
  obtain ⟨ws, hm, hP, hD⟩ := id hR
  obtain ⟨i, hi⟩ := rep_at (hm _ _ hr)
  subst hx
  subst hv
  refine va_cald hB.1 hB.2.1 hB.2.2.2.2.2.2.2.2.2.1 hP i 4 hi rfl (vp_in_nI hj hN) hd ?_
  rw [nI_clamp (Nat.lt_trans hj hN)]
  exact kk p e s m args below meth c H locs cells slots ls hB hR hS h e1 e2
theorem x_iast {N a j : Nat} {f : Nat → Int32} {x w : Int32} (hd : decode cc pc = .ok (.iastore, 1)) (hr : σ a = some (.inl (0, N, .inl f))) (hx : x = nI j) (hj : j < N) (hN : N < 2 ^ 31)  (kk : ∀ τ : AH, τ a = some (.inl (0, N, .inl (upd f j w))) → (∀ q, q ≠ a → τ q = σ q) → X l y cc nL ret hh G R Z (pc + 1) L rest τ k n) : X l y cc nL ret hh G R Z pc L (.int w :: .int x :: .ref a :: rest) σ k n := by
  intro p e s m args below meth c H locs cells slots ls hB hR hS h e1 e2
  obtain ⟨ws, hm, hP, hD⟩ := id hR
  obtain ⟨i, hi⟩ := rep_at (hm _ _ hr)
  subst hx
  refine va_iast hB.1 hB.2.1 hB.2.2.2.2.2.2.2.2.2.1 hP hD hS i 0 hi rfl (vp_in_nI hj hN) hd (fun H1 locs1 hP1 hD1 hS1 => ?_)
  rw [nI_clamp (Nat.lt_trans hj hN)] at hP1 hD1
  exact kk (up σ a (.inl (0, N, .inl (upd f j w)))) up_self (fun q hq => up_ne hq) p e s m args below meth c H1 locs1 cells slots ls hB (rep_set (e := .inl (0, N, .inl (upd f j w))) hm hi hD hP1 hD1) hS1 h e1 e2
theorem x_sast {N a j : Nat} {f : Nat → Int32} {x w : Int32} (hd : decode cc pc = .ok (.sastore, 1)) (hr : σ a = some (.inl (1, N, .inl f))) (hx : x = nI j) (hj : j < N) (hN : N < 2 ^ 31) (hw : vp_nar .short w = w) (kk : ∀ τ : AH, τ a = some (.inl (1, N, .inl (upd f j w))) → (∀ q, q ≠ a → τ q = σ q) → X l y cc nL ret hh G R Z (pc + 1) L rest τ k n) : X l y cc nL ret hh G R Z pc L (.int w :: .int x :: .ref a :: rest) σ k n := by
  intro p e s m args below meth c H locs cells slots ls hB hR hS h e1 e2
  obtain ⟨ws, hm, hP, hD⟩ := id hR
  obtain ⟨i, hi⟩ := rep_at (hm _ _ hr)
  subst hx
  refine va_sast hB.1 hB.2.1 hB.2.2.2.2.2.2.2.2.2.1 hP hD hS i 1 hi rfl (vp_in_nI hj hN) hd (fun H1 locs1 hP1 hD1 hS1 => ?_)
  rw [nI_clamp (Nat.lt_trans hj hN)] at hP1 hD1
  rw [hw] at hP1 hD1
  exact kk (up σ a (.inl (1, N, .inl (upd f j w)))) up_self (fun q hq => up_ne hq) p e s m args below meth c H1 locs1 cells slots ls hB (rep_set (e := .inl (1, N, .inl (upd f j w))) hm hi hD hP1 hD1) hS1 h e1 e2
theorem x_zast {N a j : Nat} {f : Nat → Int32} {x w : Int32} (hd : decode cc pc = .ok (.bastore, 1)) (hr : σ a = some (.inl (2, N, .inl f))) (hx : x = nI j) (hj : j < N) (hN : N < 2 ^ 31) (hw : vp_nar .boolean w = w) (kk : ∀ τ : AH, τ a = some (.inl (2, N, .inl (upd f j w))) → (∀ q, q ≠ a → τ q = σ q) → X l y cc nL ret hh G R Z (pc + 1) L rest τ k n) : X l y cc nL ret hh G R Z pc L (.int w :: .int x :: .ref a :: rest) σ k n := by
  intro p e s m args below meth c H locs cells slots ls hB hR hS h e1 e2
  obtain ⟨ws, hm, hP, hD⟩ := id hR
  obtain ⟨i, hi⟩ := rep_at (hm _ _ hr)
  subst hx
  refine va_zast hB.1 hB.2.1 hB.2.2.2.2.2.2.2.2.2.1 hP hD hS i 2 hi rfl (vp_in_nI hj hN) hd (fun H1 locs1 hP1 hD1 hS1 => ?_)
  rw [nI_clamp (Nat.lt_trans hj hN)] at hP1 hD1
  rw [hw] at hP1 hD1
  exact kk (up σ a (.inl (2, N, .inl (upd f j w)))) up_self (fun q hq => up_ne hq) p e s m args below meth c H1 locs1 cells slots ls hB (rep_set (e := .inl (2, N, .inl (upd f j w))) hm hi hD hP1 hD1) hS1 h e1 e2
theorem x_bast {N a j : Nat} {f : Nat → Int32} {x w : Int32} (hd : decode cc pc = .ok (.bastore, 1)) (hr : σ a = some (.inl (3, N, .inl f))) (hx : x = nI j) (hj : j < N) (hN : N < 2 ^ 31) (hw : vp_nar .byte w = w) (kk : ∀ τ : AH, τ a = some (.inl (3, N, .inl (upd f j w))) → (∀ q, q ≠ a → τ q = σ q) → X l y cc nL ret hh G R Z (pc + 1) L rest τ k n) : X l y cc nL ret hh G R Z pc L (.int w :: .int x :: .ref a :: rest) σ k n := by
  intro p e s m args below meth c H locs cells slots ls hB hR hS h e1 e2
  obtain ⟨ws, hm, hP, hD⟩ := id hR
  obtain ⟨i, hi⟩ := rep_at (hm _ _ hr)
  subst hx
  refine va_bast hB.1 hB.2.1 hB.2.2.2.2.2.2.2.2.2.1 hP hD hS i 3 hi rfl (vp_in_nI hj hN) hd (fun H1 locs1 hP1 hD1 hS1 => ?_)
  rw [nI_clamp (Nat.lt_trans hj hN)] at hP1 hD1
  rw [hw] at hP1 hD1
  exact kk (up σ a (.inl (3, N, .inl (upd f j w)))) up_self (fun q hq => up_ne hq) p e s m args below meth c H1 locs1 cells slots ls hB (rep_set (e := .inl (3, N, .inl (upd f j w))) hm hi hD hP1 hD1) hS1 h e1 e2
theorem x_cast {N a j : Nat} {f : Nat → Int32} {x w : Int32} (hd : decode cc pc = .ok (.castore, 1)) (hr : σ a = some (.inl (4, N, .inl f))) (hx : x = nI j) (hj : j < N) (hN : N < 2 ^ 31) (hw : vp_nar .char w = w) (kk : ∀ τ : AH, τ a = some (.inl (4, N, .inl (upd f j w))) → (∀ q, q ≠ a → τ q = σ q) → X l y cc nL ret hh G R Z (pc + 1) L rest τ k n) : X l y cc nL ret hh G R Z pc L (.int w :: .int x :: .ref a :: rest) σ k n := by
  intro p e s m args below meth c H locs cells slots ls hB hR hS h e1 e2
  obtain ⟨ws, hm, hP, hD⟩ := id hR
  obtain ⟨i, hi⟩ := rep_at (hm _ _ hr)
  subst hx
  refine va_cast hB.1 hB.2.1 hB.2.2.2.2.2.2.2.2.2.1 hP hD hS i 4 hi rfl (vp_in_nI hj hN) hd (fun H1 locs1 hP1 hD1 hS1 => ?_)
  rw [nI_clamp (Nat.lt_trans hj hN)] at hP1 hD1
  rw [hw] at hP1 hD1
  exact kk (up σ a (.inl (4, N, .inl (upd f j w)))) up_self (fun q hq => up_ne hq) p e s m args below meth c H1 locs1 cells slots ls hB (rep_set (e := .inl (4, N, .inl (upd f j w))) hm hi hD hP1 hD1) hS1 h e1 e2
theorem x_aald5 {N a j b : Nat} {f : Nat → Option Nat} {x : Int32} (hd : decode cc pc = .ok (.aaload, 1)) (hr : σ a = some (.inl (5, N, .inr (.inr (.inr (.inr f)))))) (hx : x = nI j) (hj : j < N) (hN : N < 2 ^ 31) (hv : f j = some b) (kk : X l y cc nL ret hh G R Z (pc + 1) L (.ref b :: rest) σ k n) : X l y cc nL ret hh G R Z pc L (.int x :: .ref a :: rest) σ k n := by
  intro p e s m args below meth c H locs cells slots ls hB hR hS h e1 e2
  obtain ⟨ws, hm, hP, hD⟩ := id hR
  obtain ⟨i, hi⟩ := rep_at (hm _ _ hr)
  subst hx
  refine va_aldq hB.1 hB.2.1 hB.2.2.2.2.2.2.2.2.2.1 hP i 5 hi rfl (vp_in_nI hj hN) hd ?_
  rw [nI_clamp (Nat.lt_trans hj hN), hv]
  exact kk p e s m args below meth c H locs cells slots ls hB hR hS h e1 e2
theorem x_aald5N {N a j : Nat} {f : Nat → Option Nat} {x : Int32} (hd : decode cc pc = .ok (.aaload, 1)) (hr : σ a = some (.inl (5, N, .inr (.inr (.inr (.inr f)))))) (hx : x = nI j) (hj : j < N) (hN : N < 2 ^ 31) (hv : f j = none) (kk : X l y cc nL ret hh G R Z (pc + 1) L (.null :: rest) σ k n) : X l y cc nL ret hh G R Z pc L (.int x :: .ref a :: rest) σ k n := by
  intro p e s m args below meth c H locs cells slots ls hB hR hS h e1 e2
  obtain ⟨ws, hm, hP, hD⟩ := id hR
  obtain ⟨i, hi⟩ := rep_at (hm _ _ hr)
  subst hx
  refine va_aldq hB.1 hB.2.1 hB.2.2.2.2.2.2.2.2.2.1 hP i 5 hi rfl (vp_in_nI hj hN) hd ?_
  rw [nI_clamp (Nat.lt_trans hj hN), hv]
  exact kk p e s m args below meth c H locs cells slots ls hB hR hS h e1 e2
theorem x_aald6 {N a j b : Nat} {f : Nat → Option Nat} {x : Int32} (hd : decode cc pc = .ok (.aaload, 1)) (hr : σ a = some (.inl (6, N, .inr (.inr (.inr (.inr f)))))) (hx : x = nI j) (hj : j < N) (hN : N < 2 ^ 31) (hv : f j = some b) (kk : X l y cc nL ret hh G R Z (pc + 1) L (.ref b :: rest) σ k n) : X l y cc nL ret hh G R Z pc L (.int x :: .ref a :: rest) σ k n := by
  intro p e s m args below meth c H locs cells slots ls hB hR hS h e1 e2
  obtain ⟨ws, hm, hP, hD⟩ := id hR
  obtain ⟨i, hi⟩ := rep_at (hm _ _ hr)
  subst hx
  refine va_aldq hB.1 hB.2.1 hB.2.2.2.2.2.2.2.2.2.1 hP i 6 hi rfl (vp_in_nI hj hN) hd ?_
  rw [nI_clamp (Nat.lt_trans hj hN), hv]
  exact kk p e s m args below meth c H locs cells slots ls hB hR hS h e1 e2
theorem x_aald6N {N a j : Nat} {f : Nat → Option Nat} {x : Int32} (hd : decode cc pc = .ok (.aaload, 1)) (hr : σ a = some (.inl (6, N, .inr (.inr (.inr (.inr f)))))) (hx : x = nI j) (hj : j < N) (hN : N < 2 ^ 31) (hv : f j = none) (kk : X l y cc nL ret hh G R Z (pc + 1) L (.null :: rest) σ k n) : X l y cc nL ret hh G R Z pc L (.int x :: .ref a :: rest) σ k n := by
  intro p e s m args below meth c H locs cells slots ls hB hR hS h e1 e2
  obtain ⟨ws, hm, hP, hD⟩ := id hR
  obtain ⟨i, hi⟩ := rep_at (hm _ _ hr)
  subst hx
  refine va_aldq hB.1 hB.2.1 hB.2.2.2.2.2.2.2.2.2.1 hP i 6 hi rfl (vp_in_nI hj hN) hd ?_
  rw [nI_clamp (Nat.lt_trans hj hN), hv]
  exact kk p e s m args below meth c H locs cells slots ls hB hR hS h e1 e2
theorem x_aast5 {N a j b ci N0 : Nat} {C : String} {T : u_T} {fs : List Value} {f : Nat → Option Nat} {x : Int32} (hd : decode cc pc = .ok (.aastore, 1)) (hr : σ a = some (.inl (5, N, .inr (.inr (.inr (.inr f)))))) (hb : σ b = some (.inr (ci, fs))) (hc : vCl[ci]? = some (C, T, N0)) (hca : Cond.castable C "java/lang/Object" ∈ lw_tbl) (hx : x = nI j) (hj : j < N) (hN : N < 2 ^ 31) (kk : ∀ τ : AH, τ a = some (.inl (5, N, .inr (.inr (.inr (.inr (va_up f j (some b))))))) → (∀ q, q ≠ a → τ q = σ q) → X l y cc nL ret hh G R Z (pc + 1) L rest τ k n) : X l y cc nL ret hh G R Z pc L (.ref b :: .int x :: .ref a :: rest) σ k n := by
  intro p e s m args below meth c H locs cells slots ls hB hR hS h e1 e2
  obtain ⟨ws, hm, hP, hD⟩ := id hR
  obtain ⟨i, hi⟩ := rep_at (hm _ _ hr)
  obtain ⟨i2, hi2⟩ := rep_at (hm _ _ hb)
  have hG : Glob G s := hB.2.2.2.2.2.2.2.2.2
  subst hx
  refine va_astqO hB.1 hB.2.1 hG.1 hP hD hS i 5 i2 ci hi rfl (hG.2.1 _ hca rfl) hi2 hc (vp_in_nI hj hN) hd (fun H1 locs1 hP1 hD1 hS1 => ?_)
  rw [nI_clamp (Nat.lt_trans hj hN)] at hP1 hD1
  exact kk (up σ a (.inl (5, N, .inr (.inr (.inr (.inr (va_up f j (some b)))))))) up_self (fun q hq => up_ne hq) p e s m args below meth c H1 locs1 cells slots ls hB (rep_set (e := .inl (5, N, .inr (.inr (.inr (.inr (va_up f j (some b))))))) hm hi hD hP1 hD1) hS1 h e1 e2
theorem x_aast5N {N a j : Nat} {f : Nat → Option Nat} {x : Int32} (hd : decode cc pc = .ok (.aastore, 1)) (hr : σ a = some (.inl (5, N, .inr (.inr (.inr (.inr f)))))) (hx : x = nI j) (hj : j < N) (hN : N < 2 ^ 31) (kk : ∀ τ : AH, τ a = some (.inl (5, N, .inr (.inr (.inr (.inr (va_up f j none)))))) → (∀ q, q ≠ a → τ q = σ q) → X l y cc nL ret hh G R Z (pc + 1) L rest τ k n) : X l y cc nL ret hh G R Z pc L (.null :: .int x :: .ref a :: rest) σ k n := by
  intro p e s m args below meth c H locs cells slots ls hB hR hS h e1 e2
  obtain ⟨ws, hm, hP, hD⟩ := id hR
  obtain ⟨i, hi⟩ := rep_at (hm _ _ hr)
  subst hx
  refine va_astqN hB.1 hB.2.1 hB.2.2.2.2.2.2.2.2.2.1 hP hD hS i 5 hi rfl (vp_in_nI hj hN) hd (fun H1 locs1 hP1 hD1 hS1 => ?_)
  rw [nI_clamp (Nat.lt_trans hj hN)] at hP1 hD1
  exact kk (up σ a (.inl (5, N, .inr (.inr (.inr (.inr (va_up f j none))))))) up_self (fun q hq => up_ne hq) p e s m args below meth c H1 locs1 cells slots ls hB (rep_set (e := .inl (5, N, .inr (.inr (.inr (.inr (va_up f j none)))))) hm hi hD hP1 hD1) hS1 h e1 e2
theorem x_newi {N : Nat} {x : Int32} (hd : decode cc pc = .ok (.newarray .int, 2)) (hw : Cond.arrayClass .int ∈ lw_all) (hx : x = nI N) (hN : N < 2 ^ 26) (hk : 1 ≤ k) (hn : N ≤ n)
    (kk : ∀ (a : Nat) (τ : AH), σ a = none → gb G ≤ a → τ a = some (.inl (0, N, .inl (fun _ => 0))) → (∀ q, q ≠ a → τ q = σ q) → X l y cc nL ret hh G R Z (pc + 2) L (.ref a :: rest) τ (k - 1) (n - N)) : X l y cc nL ret hh G R Z pc L (.int x :: rest) σ k n := by
  intro p e s m args below meth c H locs cells slots ls hB hR hS h e1 e2
  obtain ⟨ws, hm, hP, hD⟩ := id hR
  have hG : Glob G s := hB.2.2.2.2.2.2.2.2.2
  subst hx
  refine va_newa (atype := .int) (ty := .int) (N' := N) (a0 := (N, .inl (fun _ => 0))) hB.1 hB.2.1 (hB.2.2.2.2.2.2.2.1 _ hw) rfl hG.1 hP hD hS (hA_Afr hG) (fun cA => rfl) (nI_pos (by omega)) (nI_clamp (by omega)) (by show N * _ ≤ _; simp only [componentBytes]; omega) (by omega) (by omega) hd (fun q cA H1 hK1 hP1 hD1 hS1 => ?_)
  have hcA : cA = gA G 0 := by
    have h1 := (hK1.2 (yTys G).length (cA, .int) (by simp)).2
    have h2 := (hG.1.2 0 (gA G 0, .int) rfl).2
    exact Option.some.inj (h1.symm.trans h2)
  subst hcA
  obtain ⟨g1, g2, g3⟩ := rep_push (e := .inl (0, N, .inl (fun _ => 0))) hm hP1 hD1
  exact kk q _ g2 g3 up_self (fun z hz => up_ne hz) p e s m args below meth c H1 locs (cells + 1) (slots + N) ls hB g1 hS1 h (by omega) (by omega)
theorem x_news {N : Nat} {x : Int32} (hd : decode cc pc = .ok (.newarray .short, 2)) (hw : Cond.arrayClass .short ∈ lw_all) (hx : x = nI N) (hN : N < 2 ^ 26) (hk : 1 ≤ k) (hn : N ≤ n)
    (kk : ∀ (a : Nat) (τ : AH), σ a = none → gb G ≤ a → τ a = some (.inl (1, N, .inl (fun _ => 0))) → (∀ q, q ≠ a → τ q = σ q) → X l y cc nL ret hh G R Z (pc + 2) L (.ref a :: rest) τ (k - 1) (n - N)) : X l y cc nL ret hh G R Z pc L (.int x :: rest) σ k n := by
  intro p e s m args below meth c H locs cells slots ls hB hR hS h e1 e2
  obtain ⟨ws, hm, hP, hD⟩ := id hR
  have hG : Glob G s := hB.2.2.2.2.2.2.2.2.2
  subst hx
  refine va_newa (atype := .short) (ty := .short) (N' := N) (a0 := (N, .inl (fun _ => 0))) hB.1 hB.2.1 (hB.2.2.2.2.2.2.2.1 _ hw) rfl hG.1 hP hD hS (hA_Afr hG) (fun cA => rfl) (nI_pos (by omega)) (nI_clamp (by omega)) (by show N * _ ≤ _; simp only [componentBytes]; omega) (by omega) (by omega) hd (fun q cA H1 hK1 hP1 hD1 hS1 => ?_)
  have hcA : cA = gA G 1 := by
    have h1 := (hK1.2 (yTys G).length (cA, .short) (by simp)).2
    have h2 := (hG.1.2 1 (gA G 1, .short) rfl).2
    exact Option.some.inj (h1.symm.trans h2)
  subst hcA
  obtain ⟨g1, g2, g3⟩ := rep_push (e := .inl (1, N, .inl (fun _ => 0))) hm hP1 hD1
  exact kk q _ g2 g3 up_self (fun z hz => up_ne hz) p e s m args below meth c H1 locs (cells + 1) (slots + N) ls hB g1 hS1 h (by omega) (by omega)
theorem x_newz {N : Nat} {x : Int32} (hd : decode cc pc = .ok (.newarray .boolean, 2)) (hw : Cond.arrayClass .boolean ∈ lw_all) (hx : x = nI N) (hN : N < 2 ^ 26) (hk : 1 ≤ k) (hn : N ≤ n)
    (kk : ∀ (a : Nat) (τ : AH), σ a = none → gb G ≤ a → τ a = some (.inl (2, N, .inl (fun _ => 0))) → (∀ q, q ≠ a → τ q = σ q) → X l y cc nL ret hh G R Z (pc + 2) L (.ref a :: rest) τ (k - 1) (n - N)) : X l y cc nL ret hh G R Z pc L (.int x :: rest) σ k n := by
  intro p e s m args below meth c H locs cells slots ls hB hR hS h e1 e2
  obtain ⟨ws, hm, hP, hD⟩ := id hR
  have hG : Glob G s := hB.2.2.2.2.2.2.2.2.2
  subst hx
  refine va_newa (atype := .boolean) (ty := .boolean) (N' := N) (a0 := (N, .inl (fun _ => 0))) hB.1 hB.2.1 (hB.2.2.2.2.2.2.2.1 _ hw) rfl hG.1 hP hD hS (hA_Afr hG) (fun cA => rfl) (nI_pos (by omega)) (nI_clamp (by omega)) (by show N * _ ≤ _; simp only [componentBytes]; omega) (by omega) (by omega) hd (fun q cA H1 hK1 hP1 hD1 hS1 => ?_)
  have hcA : cA = gA G 2 := by
    have h1 := (hK1.2 (yTys G).length (cA, .boolean) (by simp)).2
    have h2 := (hG.1.2 2 (gA G 2, .boolean) rfl).2
    exact Option.some.inj (h1.symm.trans h2)
  subst hcA
  obtain ⟨g1, g2, g3⟩ := rep_push (e := .inl (2, N, .inl (fun _ => 0))) hm hP1 hD1
  exact kk q _ g2 g3 up_self (fun z hz => up_ne hz) p e s m args below meth c H1 locs (cells + 1) (slots + N) ls hB g1 hS1 h (by omega) (by omega)
theorem x_newb {N : Nat} {x : Int32} (hd : decode cc pc = .ok (.newarray .byte, 2)) (hw : Cond.arrayClass .byte ∈ lw_all) (hx : x = nI N) (hN : N < 2 ^ 26) (hk : 1 ≤ k) (hn : N ≤ n)
    (kk : ∀ (a : Nat) (τ : AH), σ a = none → gb G ≤ a → τ a = some (.inl (3, N, .inl (fun _ => 0))) → (∀ q, q ≠ a → τ q = σ q) → X l y cc nL ret hh G R Z (pc + 2) L (.ref a :: rest) τ (k - 1) (n - N)) : X l y cc nL ret hh G R Z pc L (.int x :: rest) σ k n := by
  intro p e s m args below meth c H locs cells slots ls hB hR hS h e1 e2
  obtain ⟨ws, hm, hP, hD⟩ := id hR
  have hG : Glob G s := hB.2.2.2.2.2.2.2.2.2
  subst hx
  refine va_newa (atype := .byte) (ty := .byte) (N' := N) (a0 := (N, .inl (fun _ => 0))) hB.1 hB.2.1 (hB.2.2.2.2.2.2.2.1 _ hw) rfl hG.1 hP hD hS (hA_Afr hG) (fun cA => rfl) (nI_pos (by omega)) (nI_clamp (by omega)) (by show N * _ ≤ _; simp only [componentBytes]; omega) (by omega) (by omega) hd (fun q cA H1 hK1 hP1 hD1 hS1 => ?_)
  have hcA : cA = gA G 3 := by
    have h1 := (hK1.2 (yTys G).length (cA, .byte) (by simp)).2
    have h2 := (hG.1.2 3 (gA G 3, .byte) rfl).2
    exact Option.some.inj (h1.symm.trans h2)
  subst hcA
  obtain ⟨g1, g2, g3⟩ := rep_push (e := .inl (3, N, .inl (fun _ => 0))) hm hP1 hD1
  exact kk q _ g2 g3 up_self (fun z hz => up_ne hz) p e s m args below meth c H1 locs (cells + 1) (slots + N) ls hB g1 hS1 h (by omega) (by omega)
theorem x_newc {N : Nat} {x : Int32} (hd : decode cc pc = .ok (.newarray .char, 2)) (hw : Cond.arrayClass .char ∈ lw_all) (hx : x = nI N) (hN : N < 2 ^ 26) (hk : 1 ≤ k) (hn : N ≤ n)
    (kk : ∀ (a : Nat) (τ : AH), σ a = none → gb G ≤ a → τ a = some (.inl (4, N, .inl (fun _ => 0))) → (∀ q, q ≠ a → τ q = σ q) → X l y cc nL ret hh G R Z (pc + 2) L (.ref a :: rest) τ (k - 1) (n - N)) : X l y cc nL ret hh G R Z pc L (.int x :: rest) σ k n := by
  intro p e s m args below meth c H locs cells slots ls hB hR hS h e1 e2
  obtain ⟨ws, hm, hP, hD⟩ := id hR
  have hG : Glob G s := hB.2.2.2.2.2.2.2.2.2
  subst hx
  refine va_newa (atype := .char) (ty := .char) (N' := N) (a0 := (N, .inl (fun _ => 0))) hB.1 hB.2.1 (hB.2.2.2.2.2.2.2.1 _ hw) rfl hG.1 hP hD hS (hA_Afr hG) (fun cA => rfl) (nI_pos (by omega)) (nI_clamp (by omega)) (by show N * _ ≤ _; simp only [componentBytes]; omega) (by omega) (by omega) hd (fun q cA H1 hK1 hP1 hD1 hS1 => ?_)
  have hcA : cA = gA G 4 := by
    have h1 := (hK1.2 (yTys G).length (cA, .char) (by simp)).2
    have h2 := (hG.1.2 4 (gA G 4, .char) rfl).2
    exact Option.some.inj (h1.symm.trans h2)
  subst hcA
  obtain ⟨g1, g2, g3⟩ := rep_push (e := .inl (4, N, .inl (fun _ => 0))) hm hP1 hD1
  exact kk q _ g2 g3 up_self (fun z hz => up_ne hz) p e s m args below meth c H1 locs (cells + 1) (slots + N) ls hB g1 hS1 h (by omega) (by omega)
theorem x_newq5 {N ix : Nat} {x : Int32} (hd : decode cc pc = .ok (.anewarray ix, 3)) (hcl : Cond.classLink y.cls ix "java/lang/Object" ∈ lw_all) (ho : Cond.arrayOver (.object "java/lang/Object") ∈ lw_tbl) (hx : x = nI N) (hN : N < 2 ^ 26) (hk : 1 ≤ k) (hn : N ≤ n)
    (kk : ∀ (a : Nat) (τ : AH), σ a = none → gb G ≤ a → τ a = some (.inl (5, N, .inr (.inr (.inr (.inr (fun _ => none)))))) → (∀ q, q ≠ a → τ q = σ q) → X l y cc nL ret hh G R Z (pc + 3) L (.ref a :: rest) τ (k - 1) (n - N)) : X l y cc nL ret hh G R Z pc L (.int x :: rest) σ k n := by
  intro p e s m args below meth c H locs cells slots ls hB hR hS h e1 e2
  obtain ⟨ws, hm, hP, hD⟩ := id hR
  have hG : Glob G s := hB.2.2.2.2.2.2.2.2.2
  subst hx
  refine va_newq (C := "java/lang/Object") (N' := N) hB.1 hB.2.1 hB.2.2.2.2.2.1 (hB.2.2.2.2.2.2.2.1 _ hcl) (hG.2.2.2.1 _ ho) hG.1 hP hD hS (hA_Afr hG) (nI_pos (by omega)) (nI_clamp (by omega)) (by omega) (by omega) (by omega) hd (fun q cA H1 hK1 hP1 hD1 hS1 => ?_)
  have hcA : cA = gA G 5 := by
    obtain ⟨_, _, _, _, _, h1⟩ := (hK1.2 (yTys G).length (cA, .object "java/lang/Object") (by simp)).2
    obtain ⟨_, _, _, _, _, h2⟩ := (hG.1.2 5 (gA G 5, .object "java/lang/Object") rfl).2
    exact Option.some.inj (h1.symm.trans h2)
  subst hcA
  obtain ⟨g1, g2, g3⟩ := rep_push (e := .inl (5, N, .inr (.inr (.inr (.inr (fun _ => none)))))) hm hP1 hD1
  exact kk q _ g2 g3 up_self (fun z hz => up_ne hz) p e s m args below meth c H1 locs (cells + 1) (slots + N) ls hB g1 hS1 h (by omega) (by omega)
theorem x_newq6 {N ix : Nat} {x : Int32} (hd : decode cc pc = .ok (.anewarray ix, 3)) (hcl : Cond.classLink y.cls ix "LarderLocks$Fit" ∈ lw_all) (ho : Cond.arrayOver (.object "LarderLocks$Fit") ∈ lw_tbl) (hx : x = nI N) (hN : N < 2 ^ 26) (hk : 1 ≤ k) (hn : N ≤ n)
    (kk : ∀ (a : Nat) (τ : AH), σ a = none → gb G ≤ a → τ a = some (.inl (6, N, .inr (.inr (.inr (.inr (fun _ => none)))))) → (∀ q, q ≠ a → τ q = σ q) → X l y cc nL ret hh G R Z (pc + 3) L (.ref a :: rest) τ (k - 1) (n - N)) : X l y cc nL ret hh G R Z pc L (.int x :: rest) σ k n := by
  intro p e s m args below meth c H locs cells slots ls hB hR hS h e1 e2
  obtain ⟨ws, hm, hP, hD⟩ := id hR
  have hG : Glob G s := hB.2.2.2.2.2.2.2.2.2
  subst hx
  refine va_newq (C := "LarderLocks$Fit") (N' := N) hB.1 hB.2.1 hB.2.2.2.2.2.1 (hB.2.2.2.2.2.2.2.1 _ hcl) (hG.2.2.2.1 _ ho) hG.1 hP hD hS (hA_Afr hG) (nI_pos (by omega)) (nI_clamp (by omega)) (by omega) (by omega) (by omega) hd (fun q cA H1 hK1 hP1 hD1 hS1 => ?_)
  have hcA : cA = gA G 6 := by
    obtain ⟨_, _, _, _, _, h1⟩ := (hK1.2 (yTys G).length (cA, .object "LarderLocks$Fit") (by simp)).2
    obtain ⟨_, _, _, _, _, h2⟩ := (hG.1.2 6 (gA G 6, .object "LarderLocks$Fit") rfl).2
    exact Option.some.inj (h1.symm.trans h2)
  subst hcA
  obtain ⟨g1, g2, g3⟩ := rep_push (e := .inl (6, N, .inr (.inr (.inr (.inr (fun _ => none)))))) hm hP1 hD1
  exact kk q _ g2 g3 up_self (fun z hz => up_ne hz) p e s m args below meth c H1 locs (cells + 1) (slots + N) ls hB g1 hS1 h (by omega) (by omega)
theorem x_ckcast {C : String} {ix a : Nat} (hd : decode cc pc = .ok (.checkcast ix, 3)) (hl : Cond.classLink y.cls ix C ∈ lw_all) (hr : rcv G σ C a) (kk : X l y cc nL ret hh G R Z (pc + 3) L (.ref a :: rest) σ k n) : X l y cc nL ret hh G R Z pc L (.ref a :: rest) σ k n := by
  intro p e s m args below meth c H locs cells slots ls hB hR hS h e1 e2
  have hG : Glob G s := hB.2.2.2.2.2.2.2.2.2
  exact va_castE hB.1 hB.2.1 hB.2.2.2.2.2.1 (hB.2.2.2.2.2.2.2.1 _ hl) (rcv_cell hG hR hS hr) hd (kk p e s m args below meth c H locs cells slots ls hB hR hS h e1 e2)
theorem x_ldcS {i ix : Nat} {tx : String} (hd : decode cc pc = .ok (.ldc ix, 2)) (hi : yStr[i]? = some (y.cls, ix, tx)) (kk : X l y cc nL ret hh G R Z (pc + 2) L (.ref (gc G i) :: rest) σ k n) : X l y cc nL ret hh G R Z pc L rest σ k n := by
  intro p e s m args below meth c H locs cells slots ls hB hR hS h e1 e2
  have hG : Glob G s := hB.2.2.2.2.2.2.2.2.2
  exact va_ldcS hB.1 hB.2.1 hB.2.2.2.2.2.1 (hG.2.2.2.2.2.2.1 i _ hi) hd (kk p e s m args below meth c H locs cells slots ls hB hR hS h e1 e2)
theorem x_gets {i ix : Nat} {C f d : String} {v : Value} (hd : decode cc pc = .ok (.getstatic ix, 3)) (hl : Cond.fieldLink y.cls ix C f d ∈ lw_all) (hz : (yZ G)[i]? = some (C, f, d, v)) (kk : X l y cc nL ret hh G R Z (pc + 3) L (v :: rest) σ k n) : X l y cc nL ret hh G R Z pc L rest σ k n := by
  intro p e s m args below meth c H locs cells slots ls hB hR hS h e1 e2
  have hG : Glob G s := hB.2.2.2.2.2.2.2.2.2
  exact va_gets hB.1 hB.2.1 (hG.2.2.2.2.2.1 _ (List.mem_of_getElem? hz)) hS hB.2.2.2.2.2.1 (hB.2.2.2.2.2.2.2.1 _ hl) (fun _ h => h) hd (kk p e s m args below meth c H locs cells slots ls hB hR hS h e1 e2)
end YROWS
