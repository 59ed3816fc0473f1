set_option maxRecDepth 100000
-- ===== a larder in the heap =====
abbrev PSA (σ : AH) (x : Nat) : YR → AH → Prop := PA fun z τ => z = x ∧ τ = σ
abbrev PSV (σ : AH) : YR → AH → Prop := PV fun τ => τ = σ
section YRSA
variable {l : Launch} {y : MethodName} {cc : ByteArray} {nL : Nat} {ret : Option FieldType} {hh : List (Nat × Nat × Nat × Nat)} {G : YG} {R : Room} {Z : YE} {pc : Nat} {L : List (Nat × Value)} {rest : List Value} {σ : AH}
theorem rSA {x pcn k' n' : Nat} (h : X l y cc nL ret hh G R Z pcn L (.ref x :: rest) σ k' n') : ∀ (v : Option Value) (τ : AH), PA (fun z τ => z = x ∧ τ = σ) (.inl v) τ → X l y cc nL ret hh G R Z pcn L (v.toList ++ rest) τ k' n' := fun v τ ⟨z, e, e1, e2⟩ => by
  cases e
  subst e1
  subst e2
  exact h
theorem rSV {pcn k' n' : Nat} (h : X l y cc nL ret hh G R Z pcn L rest σ k' n') : ∀ (v : Option Value) (τ : AH), PV (fun τ => τ = σ) (.inl v) τ → X l y cc nL ret hh G R Z pcn L (v.toList ++ rest) τ k' n' := fun v τ ⟨e, e2⟩ => by
  cases e
  subst e2
  exact h
end YRSA
abbrev wiE (w : Wi) : Ent := .inr (4, [.int (nI w.1), .int (nI w.2.1), .int (bI w.2.2)])
def WR (σ : AH) (ns : NL) (r : List Wi) : Prop := ns.length = r.length ∧ ∀ (i : Nat) (x : Nat × Nat) (w : Wi), ns[i]? = some x → r[i]? = some w → σ x.2 = some (wiE w)
def aI (σ : AH) (b N : Nat) (g : Nat → Nat) : Prop := ∃ f : Nat → Int32, σ b = some (.inl (0, N, .inl f)) ∧ ∀ j, j < N → f j = nI (g j)
def aS (σ : AH) (b : Nat) (g : Nat → Nat) : Prop := ∃ f : Nat → Int32, σ b = some (.inl (1, 8, .inl f)) ∧ ∀ j, j < 8 → f j = nI (g j)
def lLen (i : Nat) : Nat := match i with
  | 0 => 24
  | 1 => 24
  | 2 => 24
  | _ => 8
def lArr (S : AS) (i : Nat) : Nat → Nat := match i with
  | 0 => lG S
  | 1 => wT S
  | 2 => gT S
  | 3 => gN S
  | _ => lQ S
noncomputable abbrev lFs (ad : Nat → Nat) (S : AS) : List Value := [.ref (ad 0), .ref (ad 1), .ref (ad 2), .ref (ad 3), .ref (ad 4), .ref (ad 5), .ref (ad 6), .int (encB (tH S)), .int (nI (nC S)), .int (nI (nE S))]
def lYs (ad : Nat → Nat) : List Nat := (List.range 8).map (fun s => ad (10 + s))
def LJ (ad : Nat → Nat) (N : Nat → NL) : Prop := (∀ i j, i < 24 → j < 24 → ad (20 + i) = ad (20 + j) → i = j) ∧ (∀ i j, i < 5 → j < 5 → ad (2 + i) = ad (2 + j) → i = j) ∧ (∀ i j, i < 8 → j < 8 → ad (10 + i) = ad (10 + j) → i = j) ∧ ∀ s s', s < 8 → s' < 8 → ∀ x ∈ N s, ∀ y ∈ N s', x.1 = y.1 → s = s'
def LD (σ : AH) (a : Nat) (ad : Nat → Nat) (N : Nat → NL) (mc : Nat → Int32) (S : AS) : Prop :=
  σ a = some (.inr (1, lFs ad S)) ∧
  (∃ f, σ (ad 0) = some (.inl (7, 24, .inr (.inr (.inr (.inr f))))) ∧ ∀ j, j < 24 → f j = some (ad (20 + j))) ∧
  (∀ m, m < 24 → aS σ (ad (20 + m)) (hw S m)) ∧
  AL σ (ad 1) (ad 7) 8 (lYs ad) ∧
  (∀ i, i < 5 → aI σ (ad (2 + i)) (lLen i) (lArr S i)) ∧
  (∀ s, s < 8 → LL σ (ad (10 + s)) (mc s) (N s) ∧ WR σ (N s) (qu S s)) ∧
  LJ ad N
/-- its own cells -/
def FP (a : Nat) (ad : Nat → Nat) (N : Nat → NL) (q : Nat) : Prop := q = a ∨ (∃ k, k < 8 ∧ q = ad k) ∨ (∃ k, k < 24 ∧ q = ad (20 + k)) ∨ ∃ s, s < 8 ∧ LW (ad (10 + s)) (N s) q
def ftg (t : Nat) : Bool := t == 1 || t == 107 || t == 101 || t == 100 || t == 10 || t == 105 || t == 11 || t == 12
section LDFACTS
variable {σ τ υ : AH} {a : Nat} {ad : Nat → Nat} {N N' : Nat → NL} {mc mc' : Nat → Int32} {S S' : AS}
theorem LD.o (h : LD σ a ad N mc S) : σ a = some (.inr (1, lFs ad S)) := h.1
theorem LD.row (h : LD σ a ad N mc S) {m : Nat} (hm : m < 24) : aS σ (ad (20 + m)) (hw S m) := h.2.2.1 m hm
theorem LD.al (h : LD σ a ad N mc S) : AL σ (ad 1) (ad 7) 8 (lYs ad) := h.2.2.2.1
theorem LD.arr (h : LD σ a ad N mc S) {i : Nat} (hi : i < 5) : aI σ (ad (2 + i)) (lLen i) (lArr S i) := h.2.2.2.2.1 i hi
theorem LD.ll (h : LD σ a ad N mc S) {s : Nat} (hs : s < 8) : LL σ (ad (10 + s)) (mc s) (N s) := (h.2.2.2.2.2.1 s hs).1
theorem LD.wr (h : LD σ a ad N mc S) {s : Nat} (hs : s < 8) : WR σ (N s) (qu S s) := (h.2.2.2.2.2.1 s hs).2
theorem LD.lj (h : LD σ a ad N mc S) : LJ ad N := h.2.2.2.2.2.2
theorem LD.len (h : LD σ a ad N mc S) {s : Nat} (hs : s < 8) : (N s).length = (qu S s).length := (h.wr hs).1
theorem lYs_at {ad : Nat → Nat} {s : Nat} (hs : s < 8) : (lYs ad)[s]? = some (ad (10 + s)) := by
  unfold lYs
  rw [List.getElem?_map, List.getElem?_range hs]
  rfl
theorem lYs_len {ad : Nat → Nat} : (lYs ad).length = 8 := by unfold lYs; rw [List.length_map, List.length_range]
/-- a cell stays where W does not write -/
def Ke (W : Nat → Prop) (σ τ : AH) : Prop := ∀ q e, σ q = some e → ¬ W q → τ q = some e
theorem Ke.put {b : Nat} (hu : ∀ q, q ≠ b → τ q = σ q) : Ke (fun q => q = b) σ τ := fun q e hq hn => (hu q hn).trans hq
theorem aI.ke {W : Nat → Prop} {b n : Nat} {g : Nat → Nat} (h : aI σ b n g) (k : Ke W σ τ) (hb : ¬ W b) : aI τ b n g := by
  obtain ⟨f, h1, h2⟩ := h
  exact ⟨f, k _ _ h1 hb, h2⟩
theorem aS.ke {W : Nat → Prop} {b : Nat} {g : Nat → Nat} (h : aS σ b g) (k : Ke W σ τ) (hb : ¬ W b) : aS τ b g := by
  obtain ⟨f, h1, h2⟩ := h
  exact ⟨f, k _ _ h1 hb, h2⟩
theorem AL.ke {W : Nat → Prop} {p el : Nat} {m : Int32} {ys : List Nat} (h : AL σ p el m ys) (k : Ke W σ τ) (h1 : ¬ W p) (h2 : ¬ W el) : AL τ p el m ys := by
  obtain ⟨g1, ⟨f, g2, g3⟩, g4⟩ := h
  exact ⟨k _ _ g1 h1, ⟨f, k _ _ g2 h2, g3⟩, g4⟩
theorem LL.ke {W : Nat → Prop} {p : Nat} {m : Int32} {ns : NL} (h : LL σ p m ns) (k : Ke W σ τ) (hw : ∀ q, LW p ns q → ¬ W q) : LL τ p m ns :=
  ⟨k _ _ h.1 (hw _ (Or.inl rfl)), fun i x hx => k _ _ (h.2.1 i x hx) (hw _ (Or.inr ⟨x, List.mem_of_getElem? hx, rfl⟩)), h.2.2⟩
theorem WR.ke {W : Nat → Prop} {ns : NL} {r : List Wi} (h : WR σ ns r) (k : Ke W σ τ) (hw : ∀ q e, σ q = some e → tag e = 4 → ¬ W q) : WR τ ns r :=
  ⟨h.1, fun i x w hx hwi => k _ _ (h.2 i x w hx hwi) (hw _ _ (h.2 i x w hx hwi) rfl)⟩
theorem LL.ltag {p : Nat} {m : Int32} {ns : NL} (h : LL σ p m ns) {q : Nat} (hq : LW p ns q) : ∃ e, σ q = some e ∧ (tag e = 11 ∨ tag e = 12) := by
  rcases hq with rfl | ⟨x, hx, rfl⟩
  · exact ⟨_, h.1, Or.inl rfl⟩
  · obtain ⟨i, hi⟩ := List.getElem?_of_mem hx
    exact ⟨_, h.2.1 i x hi, Or.inr rfl⟩
theorem LD.ftag (h : LD σ a ad N mc S) {q : Nat} (hq : FP a ad N q) : ∃ e, σ q = some e ∧ ftg (tag e) = true := by
  rcases hq with rfl | ⟨k, hk, rfl⟩ | ⟨k, hk, rfl⟩ | ⟨s, hs, hq⟩
  · exact ⟨_, h.1, rfl⟩
  · obtain ⟨f, h0, -⟩ := h.2.1
    obtain ⟨f7, h7, -⟩ := h.al.2.1
    have h1 := h.al.1
    match k, hk with
    | 0, _ => exact ⟨_, h0, rfl⟩
    | 1, _ => exact ⟨_, h1, rfl⟩
    | 2, _ => obtain ⟨f, g, -⟩ := h.arr (i := 0) (by decide); exact ⟨_, g, rfl⟩
    | 3, _ => obtain ⟨f, g, -⟩ := h.arr (i := 1) (by decide); exact ⟨_, g, rfl⟩
    | 4, _ => obtain ⟨f, g, -⟩ := h.arr (i := 2) (by decide); exact ⟨_, g, rfl⟩
    | 5, _ => obtain ⟨f, g, -⟩ := h.arr (i := 3) (by decide); exact ⟨_, g, rfl⟩
    | 6, _ => obtain ⟨f, g, -⟩ := h.arr (i := 4) (by decide); exact ⟨_, g, rfl⟩
    | 7, _ => exact ⟨_, h7, rfl⟩
  · obtain ⟨f, g, -⟩ := h.row hk
    exact ⟨_, g, rfl⟩
  · obtain ⟨e, g1, g2 | g2⟩ := (h.ll hs).ltag hq
    · exact ⟨e, g1, by rw [g2]; rfl⟩
    · exact ⟨e, g1, by rw [g2]; rfl⟩
theorem ftg_imm {e : Ent} (h : ftg (tag e) = true) : imm (tag e) = false := by
  unfold ftg at h
  simp only [Bool.or_eq_true, beq_iff_eq] at h
  rcases h with ((((((h | h) | h) | h) | h) | h) | h) | h <;> rw [h] <;> rfl
/-- a cell of another kind is none of its own -/
theorem LD.not (h : LD σ a ad N mc S) {q : Nat} {e : Ent} (hq : σ q = some e) (ht : ftg (tag e) = false) : ¬ FP a ad N q := fun hf => by
  obtain ⟨e', h1, h2⟩ := h.ftag hf
  rw [hq] at h1
  cases h1
  rw [ht] at h2
  cases h2
theorem LD.nn (h : LD σ a ad N mc S) {q : Nat} (hq : σ q = none) : ¬ FP a ad N q := fun hf => by
  obtain ⟨e', h1, -⟩ := h.ftag hf
  rw [hq] at h1
  cases h1
theorem LD.ke {W : Nat → Prop} (h : LD σ a ad N mc S) (k : Ke W σ τ) (hw : ∀ q, FP a ad N q → ¬ W q) (hi : ∀ q e, σ q = some e → tag e = 4 → ¬ W q) : LD τ a ad N mc S := by
  have hW8 : ∀ j, j < 8 → ¬ W (ad j) := fun j hj => hw _ (Or.inr (Or.inl ⟨j, hj, rfl⟩))
  refine ⟨k _ _ h.1 (hw _ (Or.inl rfl)), ?_, fun m hm => (h.row hm).ke k (hw _ (Or.inr (Or.inr (Or.inl ⟨m, hm, rfl⟩)))), h.al.ke k (hW8 1 (by decide)) (hW8 7 (by decide)), fun i hi => (h.arr hi).ke k (hW8 (2 + i) (by omega)), fun s hs => ⟨(h.ll hs).ke k (fun q hq => hw _ (Or.inr (Or.inr (Or.inr ⟨s, hs, hq⟩)))), (h.wr hs).ke k hi⟩, h.lj⟩
  obtain ⟨f, h1, h2⟩ := h.2.1
  exact ⟨f, k _ _ h1 (hW8 0 (by decide)), h2⟩
theorem RO.ke (h : RO σ τ) : Ke (fun _ => False) σ τ := fun q e hq _ => h q e hq
theorem LD.ro (h : LD σ a ad N mc S) (hr : RO σ τ) : LD τ a ad N mc S := h.ke hr.ke (fun _ _ z => z) (fun _ _ _ _ z => z)
theorem LD.fr {W : Nat → Prop} (h : LD σ a ad N mc S) (hf : Fr W σ τ) (hw : ∀ q, FP a ad N q → ¬ W q) : LD τ a ad N mc S := by
  refine h.ke (W := fun q => W q ∧ ∀ e, σ q = some e → imm (tag e) = false) (fun q e hq hn => ?_) (fun q hq z => hw q hq z.1) (fun q e hq ht z => ?_)
  · by_cases hi : imm (tag e) = true
    · exact hf.2.2 q e hq hi
    · refine hf.1 q e hq (fun w => hn ⟨w, fun e' he' => ?_⟩)
      rw [hq] at he'
      cases he'
      exact Bool.eq_false_iff.mpr hi
  · have := z.2 e hq
    rw [ht] at this
    cases this
-- ===== what a method leaves =====
def PL (a : Nat) (ad : Nat → Nat) (N : Nat → NL) (σ : AH) (S' : AS) (τ : AH) : Prop := ∃ N' mc', LD τ a ad N' mc' S' ∧ Fr (FP a ad N) σ τ ∧ ∀ q, FP a ad N' q → FP a ad N q ∨ σ q = none
theorem PL.rf (h : LD σ a ad N mc S) : PL a ad N σ S σ := ⟨N, mc, h, Fr.rf, fun _ hq => Or.inl hq⟩
theorem PL.ofro (h : LD σ a ad N mc S) (hr : RO σ τ) : PL a ad N σ S τ := ⟨N, mc, h.ro hr, hr.fr, fun _ hq => Or.inl hq⟩
theorem PL.tr (h1 : Fr (FP a ad N) σ τ) (h2 : ∀ q, FP a ad N' q → FP a ad N q ∨ σ q = none) (h : PL a ad N' τ S' υ) : PL a ad N σ S' υ := by
  obtain ⟨N2, mc2, g1, g2, g3⟩ := h
  refine ⟨N2, mc2, g1, h1.tr g2 h2, fun q hq => ?_⟩
  rcases g3 q hq with w | w
  · exact h2 q w
  · exact Or.inr (h1.nn w)
theorem PL.roThen (hr : RO σ τ) (h : PL a ad N τ S' υ) : PL a ad N σ S' υ := PL.tr hr.fr (fun _ hq => Or.inl hq) h
theorem PL.thenro (h : PL a ad N σ S' τ) (hr : RO τ υ) : PL a ad N σ S' υ := by
  obtain ⟨N2, mc2, g1, g2, g3⟩ := h
  exact ⟨N2, mc2, g1.ro hr, g2.tr_ro hr, g3⟩
/-- one of its cells is written -/
theorem LD.frput (h : LD σ a ad N mc S) {b : Nat} {e : Ent} (hb : FP a ad N b) (h1 : τ b = some e) (h2 : ∀ q, q ≠ b → τ q = σ q) : Fr (FP a ad N) σ τ := Fr.put Fr.rf h1 h2 (Or.inl ⟨hb, fun e' he' => by
  obtain ⟨e2, g1, g2⟩ := h.ftag hb
  rw [he'] at g1
  cases g1
  exact ftg_imm g2⟩)
/-- the object's own numbers -/
theorem PL.obj (h : LD σ a ad N mc S) (h1 : τ a = some (.inr (1, lFs ad S'))) (h2 : ∀ q, q ≠ a → τ q = σ q) (e1 : hw S' = hw S) (e2 : qu S' = qu S) (e3 : ∀ i, i < 5 → lArr S' i = lArr S i) : PL a ad N σ S' τ := by
  have k := Ke.put h2
  have hne : ∀ {b e}, σ b = some e → Nat.beq (tag e) 1 = false → ¬ b = a := fun hb ht z => by
    subst z
    rw [h.1] at hb
    cases hb
    exact Bool.noConfusion ht
  refine ⟨N, mc, ⟨h1, ?_, fun m hm => ?_, ?_, fun i hi => ?_, fun s hs => ?_, h.lj⟩, h.frput (Or.inl rfl) h1 h2, fun _ hq => Or.inl hq⟩
  · obtain ⟨f, g1, g2⟩ := h.2.1
    exact ⟨f, k _ _ g1 (hne g1 rfl), g2⟩
  · rw [e1]
    obtain ⟨f, g1, g2⟩ := h.row hm
    exact ⟨f, k _ _ g1 (hne g1 rfl), g2⟩
  · obtain ⟨f, g1, g2⟩ := h.al.2.1
    exact h.al.ke k (hne h.al.1 rfl) (hne g1 rfl)
  · rw [e3 i hi]
    obtain ⟨f, g1, g2⟩ := h.arr hi
    exact ⟨f, k _ _ g1 (hne g1 rfl), g2⟩
  · rw [e2]
    refine ⟨(h.ll hs).ke k (fun q hq => ?_), (h.wr hs).ke k (fun q e hq ht => hne hq (by rw [ht]; rfl))⟩
    obtain ⟨e, g1, g2 | g2⟩ := (h.ll hs).ltag hq
    · exact hne g1 (by rw [g2]; rfl)
    · exact hne g1 (by rw [g2]; rfl)
/-- how a maid holds -/
theorem PL.how (h : LD σ a ad N mc S) {m : Nat} (hm : m < 24) {g : Nat → Int32} (h1 : τ (ad (20 + m)) = some (.inl (1, 8, .inl g))) (h2 : ∀ q, q ≠ ad (20 + m) → τ q = σ q) (hg : ∀ j, j < 8 → g j = nI (hw S' m j))
    (e0 : ∀ m', m' < 24 → m' ≠ m → hw S' m' = hw S m') (e1 : S'.1 = S.1 ∧ tH S' = tH S) (e2 : qu S' = qu S) (e3 : ∀ i, i < 5 → lArr S' i = lArr S i) : PL a ad N σ S' τ := by
  have k := Ke.put h2
  obtain ⟨f0, h0, -⟩ := h.row hm
  have hne : ∀ {b e}, σ b = some e → Nat.beq (tag e) 101 = false → ¬ b = ad (20 + m) := fun hb ht z => by
    subst z
    rw [h0] at hb
    cases hb
    exact Bool.noConfusion ht
  refine ⟨N, mc, ⟨?_, ?_, fun m' hm' => ?_, ?_, fun i hi => ?_, fun s hs => ?_, h.lj⟩, h.frput (Or.inr (Or.inr (Or.inl ⟨m, hm, rfl⟩))) h1 h2, fun _ hq => Or.inl hq⟩
  · have := k _ _ h.1 (hne h.1 rfl)
    rw [this]
    show some (Sum.inr (1, lFs ad S)) = some (Sum.inr (1, lFs ad S'))
    simp only [lFs, nC, nE, e1.1, e1.2]
  · obtain ⟨f, g1, g2⟩ := h.2.1
    exact ⟨f, k _ _ g1 (hne g1 rfl), g2⟩
  · by_cases e : m' = m
    · subst e
      exact ⟨g, h1, hg⟩
    · rw [e0 m' hm' e]
      exact (h.row hm').ke k (fun z => e (h.lj.1 m' m hm' hm z))
  · obtain ⟨f, g1, g2⟩ := h.al.2.1
    exact h.al.ke k (hne h.al.1 rfl) (hne g1 rfl)
  · rw [e3 i hi]
    obtain ⟨f, g1, g2⟩ := h.arr hi
    exact ⟨f, k _ _ g1 (hne g1 rfl), g2⟩
  · rw [e2]
    refine ⟨(h.ll hs).ke k (fun q hq => ?_), (h.wr hs).ke k (fun q e hq ht => hne hq (by rw [ht]; rfl))⟩
    obtain ⟨e, g1, g2 | g2⟩ := (h.ll hs).ltag hq
    · exact hne g1 (by rw [g2]; rfl)
    · exact hne g1 (by rw [g2]; rfl)
/-- one of the rows of numbers -/
theorem PL.arr (h : LD σ a ad N mc S) {i : Nat} (hi : i < 5) {g : Nat → Int32} (h1 : τ (ad (2 + i)) = some (.inl (0, lLen i, .inl g))) (h2 : ∀ q, q ≠ ad (2 + i) → τ q = σ q) (hg : ∀ j, j < lLen i → g j = nI (lArr S' i j))
    (e0 : hw S' = hw S) (e1 : S'.1 = S.1 ∧ tH S' = tH S) (e2 : qu S' = qu S) (e3 : ∀ i', i' < 5 → i' ≠ i → lArr S' i' = lArr S i') : PL a ad N σ S' τ := by
  have k := Ke.put h2
  obtain ⟨f0, h0, -⟩ := h.arr hi
  have hne : ∀ {b e}, σ b = some e → Nat.beq (tag e) 100 = false → ¬ b = ad (2 + i) := fun hb ht z => by
    subst z
    rw [h0] at hb
    cases hb
    exact Bool.noConfusion ht
  refine ⟨N, mc, ⟨?_, ?_, fun m' hm' => ?_, ?_, fun i' hi' => ?_, fun s hs => ?_, h.lj⟩, h.frput (Or.inr (Or.inl ⟨2 + i, by omega, rfl⟩)) h1 h2, fun _ hq => Or.inl hq⟩
  · have := k _ _ h.1 (hne h.1 rfl)
    rw [this]
    show some (Sum.inr (1, lFs ad S)) = some (Sum.inr (1, lFs ad S'))
    simp only [lFs, nC, nE, e1.1, e1.2]
  · obtain ⟨f, g1, g2⟩ := h.2.1
    exact ⟨f, k _ _ g1 (hne g1 rfl), g2⟩
  · rw [e0]
    obtain ⟨f, g1, g2⟩ := h.row hm'
    exact ⟨f, k _ _ g1 (hne g1 rfl), g2⟩
  · obtain ⟨f, g1, g2⟩ := h.al.2.1
    exact h.al.ke k (hne h.al.1 rfl) (hne g1 rfl)
  · by_cases e : i' = i
    · subst e
      exact ⟨g, h1, hg⟩
    · rw [e3 i' hi' e]
      exact (h.arr hi').ke k (fun z => e (h.lj.2.1 i' i hi' hi z))
  · rw [e2]
    refine ⟨(h.ll hs).ke k (fun q hq => ?_), (h.wr hs).ke k (fun q e hq ht => hne hq (by rw [ht]; rfl))⟩
    obtain ⟨e, g1, g2 | g2⟩ := (h.ll hs).ltag hq
    · exact hne g1 (by rw [g2]; rfl)
    · exact hne g1 (by rw [g2]; rfl)
/-- a row of those who wait -/
theorem LD.list (h : LD σ a ad N mc S) {s : Nat} (hs : s < 8) {m' : Int32} {ns : NL} {r : List Wi} (h1 : LL τ (ad (10 + s)) m' ns) (h2 : Fr (LW (ad (10 + s)) (N s)) σ τ) (h3 : ∀ x ∈ ns, (∃ y ∈ N s, x.1 = y.1) ∨ σ x.1 = none) (h4 : WR τ ns r) : LD τ a ad (fset N s ns) (fset mc s m') (sRow S s r) ∧ Fr (FP a ad N) σ τ ∧ ∀ q, FP a ad (fset N s ns) q → FP a ad N q ∨ σ q = none := by
  have k : Ke (LW (ad (10 + s)) (N s)) σ τ := h2.1
  have hne : ∀ {b e}, σ b = some e → (Nat.beq (tag e) 11 = false ∧ Nat.beq (tag e) 12 = false) → ¬ LW (ad (10 + s)) (N s) b := fun hb ht z => by
    obtain ⟨e, g1, g2⟩ := (h.ll hs).ltag z
    rw [hb] at g1
    cases g1
    rcases g2 with g2 | g2
    · rw [g2] at ht; exact Bool.noConfusion ht.1
    · rw [g2] at ht; exact Bool.noConfusion ht.2
  have hns : ∀ s', s' < 8 → s' ≠ s → ∀ q, LW (ad (10 + s')) (N s') q → ¬ LW (ad (10 + s)) (N s) q := fun s' hs' hn q hq hq2 => by
    rcases hq with rfl | ⟨x, hx, rfl⟩
    · rcases hq2 with e | ⟨y, hy, e⟩
      · exact hn (h.lj.2.2.1 s' s hs' hs e)
      · have g1 := (h.ll hs').1
        obtain ⟨i, hi⟩ := List.getElem?_of_mem hy
        have g2 := (h.ll hs).2.1 i y hi
        rw [← e, g1] at g2
        cases g2
    · rcases hq2 with e | ⟨y, hy, e⟩
      · have g1 := (h.ll hs).1
        obtain ⟨i, hi⟩ := List.getElem?_of_mem hx
        have g2 := (h.ll hs').2.1 i x hi
        rw [e, g1] at g2
        cases g2
      · exact hn (h.lj.2.2.2 s' s hs' hs x hx y hy e)
  have hsub : ∀ q, FP a ad (fset N s ns) q → FP a ad N q ∨ σ q = none := fun q hq => by
    rcases hq with w | w | w | ⟨s', hs', w⟩
    · exact Or.inl (Or.inl w)
    · exact Or.inl (Or.inr (Or.inl w))
    · exact Or.inl (Or.inr (Or.inr (Or.inl w)))
    · by_cases e : s' = s
      · subst e
        rw [fset_s] at w
        rcases w with w | ⟨x, hx, w⟩
        · exact Or.inl (Or.inr (Or.inr (Or.inr ⟨s', hs', Or.inl w⟩)))
        · rcases h3 x hx with ⟨y, hy, e⟩ | g
          · exact Or.inl (Or.inr (Or.inr (Or.inr ⟨s', hs', Or.inr ⟨y, hy, w.trans e⟩⟩)))
          · exact Or.inr (by rw [w]; exact g)
      · rw [fset_n e] at w
        exact Or.inl (Or.inr (Or.inr (Or.inr ⟨s', hs', w⟩)))
  refine ⟨⟨?_, ?_, fun m' hm' => ?_, ?_, fun i' hi' => ?_, fun s' hs' => ?_, h.lj.1, h.lj.2.1, h.lj.2.2.1, fun s1 s2 g1 g2 x hx y hy e => ?_⟩, h2.mono (fun q hq => Or.inl (Or.inr (Or.inr (Or.inr ⟨s, hs, hq⟩)))), hsub⟩
  · exact k _ _ h.1 (hne h.1 ⟨rfl, rfl⟩)
  · obtain ⟨f, g1, g2⟩ := h.2.1
    exact ⟨f, k _ _ g1 (hne g1 ⟨rfl, rfl⟩), g2⟩
  · obtain ⟨f, g1, g2⟩ := h.row hm'
    exact ⟨f, k _ _ g1 (hne g1 ⟨rfl, rfl⟩), g2⟩
  · obtain ⟨f, g1, g2⟩ := h.al.2.1
    exact h.al.ke k (hne h.al.1 ⟨rfl, rfl⟩) (hne g1 ⟨rfl, rfl⟩)
  · obtain ⟨f, g1, g2⟩ := h.arr hi'
    refine ⟨f, k _ _ g1 (hne g1 ⟨rfl, rfl⟩), ?_⟩
    match i', hi' with
    | 0, _ => exact g2
    | 1, _ => exact g2
    | 2, _ => exact g2
    | 3, _ => exact g2
    | 4, _ => exact g2
  · by_cases e : s' = s
    · subst e
      rw [fset_s, fset_s, qu_sRow]
      exact ⟨h1, h4⟩
    · rw [fset_n e, fset_n e, sRow_q, if_neg e]
      exact ⟨(h.ll hs').ke k (hns s' hs' e), (h.wr hs').ke k (fun q e hq ht => hne hq (by rw [ht]; exact ⟨rfl, rfl⟩))⟩
  · -- the nodes of two rows are apart
    have old : ∀ s' z, s' < 8 → s' ≠ s → z ∈ N s' → ∀ x ∈ ns, x.1 ≠ z.1 := fun s' z hs' hn hz x hx e => by
      obtain ⟨i, hi⟩ := List.getElem?_of_mem hz
      rcases h3 x hx with ⟨y, hy, e2⟩ | g
      · exact hn (h.lj.2.2.2 s' s hs' hs z hz y hy (e.symm.trans e2))
      · rw [e, (h.ll hs').2.1 i z hi] at g
        cases g
    by_cases q1 : s1 = s
    · by_cases q2 : s2 = s
      · rw [q1, q2]
      · subst q1
        rw [fset_s] at hx
        rw [fset_n q2] at hy
        exact absurd e (old s2 y g2 q2 hy x hx)
    · rw [fset_n q1] at hx
      by_cases q2 : s2 = s
      · subst q2
        rw [fset_s] at hy
        exact absurd e.symm (old s1 x g1 q1 hx y hy)
      · rw [fset_n q2] at hy
        exact h.lj.2.2.2 s1 s2 g1 g2 x hx y hy e
theorem PL.list (h : LD σ a ad N mc S) {s : Nat} (hs : s < 8) {m' : Int32} {ns : NL} {r : List Wi} (h1 : LL τ (ad (10 + s)) m' ns) (h2 : Fr (LW (ad (10 + s)) (N s)) σ τ) (h3 : ∀ x ∈ ns, (∃ y ∈ N s, x.1 = y.1) ∨ σ x.1 = none) (h4 : WR τ ns r) : PL a ad N σ (sRow S s r) τ := ⟨_, _, h.list hs h1 h2 h3 h4⟩
theorem WR.ro {ns : NL} {r : List Wi} (h : WR σ ns r) (hr : RO σ τ) : WR τ ns r := ⟨h.1, fun i x w hx hw => hr _ _ (h.2 i x w hx hw)⟩
end LDFACTS
-- ===== the three fits =====
def FT (σ : AH) (ft : Nat) : Prop := ∃ f : Nat → Option Nat, σ ft = some (.inl (6, 3, .inr (.inr (.inr (.inr f))))) ∧ ∀ k, k < 3 → ∃ b, f k = some b ∧ σ b = some (.inl (9, 1, .inl (fun _ => nI k)))
theorem FT.ro {σ τ : AH} {ft : Nat} (h : FT σ ft) (hr : RO σ τ) : FT τ ft := by
  obtain ⟨f, h1, h2⟩ := h
  refine ⟨f, hr _ _ h1, fun k hk => ?_⟩
  obtain ⟨b, g1, g2⟩ := h2 k hk
  exact ⟨b, g1, hr _ _ g2⟩
theorem FT.fr {W : Nat → Prop} {σ τ : AH} {ft : Nat} (h : FT σ ft) (hf : Fr W σ τ) (hw : ¬ W ft) : FT τ ft := by
  obtain ⟨f, h1, h2⟩ := h
  refine ⟨f, hf.1 _ _ h1 hw, fun k hk => ?_⟩
  obtain ⟨b, g1, g2⟩ := h2 k hk
  exact ⟨b, g1, hf.2.2 _ _ g2 rfl⟩
theorem FT.frL {σ τ : AH} {ft a : Nat} {ad : Nat → Nat} {N : Nat → NL} {mc : Nat → Int32} {S : AS} (h : FT σ ft) (hL : LD σ a ad N mc S) (hf : Fr (FP a ad N) σ τ) : FT τ ft := h.fr hf (hL.not h.choose_spec.1 rfl)
