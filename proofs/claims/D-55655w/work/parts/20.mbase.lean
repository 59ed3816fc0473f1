set_option maxRecDepth 100000
-- ===== the reference's object: one cell of fields, eight arrays =====
theorem x_top {l : Launch} {y : MethodName} {cc : ByteArray} {nL : Nat} {ret : Option FieldType} {hh : List (Nat × Nat × Nat × Nat)} {G : YG} {R : Room} {Z : YE} {pc : Nat} {L : List (Nat × Value)} {rest : List Value} {σ : AH} {k n : Nat} {x x' : Int32} (h : x = x') (kk : X l y cc nL ret hh G R Z pc L (.int x' :: rest) σ k n) : X l y cc nL ret hh G R Z pc L (.int x :: rest) σ k n := h ▸ kk
abbrev MS : Type := (Nat → Nat → Int32) × (Nat → Int32)
def mIs (k : Nat) : Bool := k == 0 || k == 1 || k == 2 || k == 3 || k == 4 || k == 10 || k == 12 || k == 16
def mLen (k : Nat) : Nat := match k with
  | 1 => 3432
  | 10 => 60
  | 12 => 200
  | 16 => 93
  | _ => 429
def mKd (k : Nat) : Nat := match k with
  | 12 => 4
  | _ => 0
def mFs (ad : Nat → Nat) (M : MS) : List Value := [.ref (ad 0), .ref (ad 1), .ref (ad 2), .ref (ad 3), .ref (ad 4), .int (M.2 5), .int (M.2 6), .int (M.2 7), .int (M.2 8), .int (M.2 9), .ref (ad 10), .int (M.2 11), .ref (ad 12), .int (M.2 13), .int (M.2 14), .int (M.2 15), .ref (ad 16), .int (M.2 17)]
def MAt (σ : AH) (a : Nat) (ad : Nat → Nat) (M : MS) : Prop := σ a = some (.inr (2, mFs ad M)) ∧ (∀ k, mIs k = true → σ (ad k) = some (.inl (mKd k, mLen k, .inl (M.1 k)))) ∧ ∀ i j, mIs i = true → mIs j = true → ad i = ad j → i = j
def mA (M : MS) (k : Nat) (f : Nat → Int32) : MS := (fun i => if i = k then f else M.1 i, M.2)
def mS (M : MS) (k : Nat) (v : Int32) : MS := (M.1, fun i => if i = k then v else M.2 i)
/-- nothing but the object's cells is written -/
def MF (a : Nat) (ad : Nat → Nat) (σ τ : AH) : Prop := ∀ q, q ≠ a → (∀ k, mIs k = true → q ≠ ad k) → τ q = σ q
theorem MF.rf {a : Nat} {ad : Nat → Nat} {σ : AH} : MF a ad σ σ := fun _ _ _ => rfl
theorem MF.tr {a : Nat} {ad : Nat → Nat} {σ τ υ : AH} (h1 : MF a ad σ τ) (h2 : MF a ad τ υ) : MF a ad σ υ := fun q g1 g2 => (h2 q g1 g2).trans (h1 q g1 g2)
theorem MAt.ne {σ : AH} {a : Nat} {ad : Nat → Nat} {M : MS} (h : MAt σ a ad M) {k : Nat} (hk : mIs k = true) : ad k ≠ a := fun z => by
  have h1 := h.2.1 k hk
  rw [z, h.1] at h1
  cases h1
/-- an array is written -/
theorem MAt.arr {σ τ : AH} {a : Nat} {ad : Nat → Nat} {M : MS} (h : MAt σ a ad M) {k : Nat} {f : Nat → Int32} (hk : mIs k = true) (h1 : τ (ad k) = some (.inl (mKd k, mLen k, .inl f))) (h2 : ∀ q, q ≠ ad k → τ q = σ q) : MAt τ a ad (mA M k f) ∧ MF a ad σ τ := by
  refine ⟨⟨by rw [h2 a (fun z => h.ne hk z.symm)]; exact h.1, fun i hi => ?_, h.2.2⟩, fun q _ hq => h2 q (hq k hk)⟩
  by_cases e : i = k
  · subst e
    rw [h1]; simp [mA]
  · rw [h2 (ad i) (fun z => e (h.2.2 i k hi hk z)), h.2.1 i hi]; simp [mA, e]
/-- a field is written -/
theorem MAt.fld {σ τ : AH} {a : Nat} {ad : Nat → Nat} {M : MS} (h : MAt σ a ad M) {k : Nat} {v : Int32} (h1 : τ a = some (.inr (2, mFs ad (mS M k v)))) (h2 : ∀ q, q ≠ a → τ q = σ q) : MAt τ a ad (mS M k v) ∧ MF a ad σ τ :=
  ⟨⟨h1, fun i hi => by rw [h2 _ (h.ne hi)]; exact h.2.1 i hi, h.2.2⟩, fun q hq _ => h2 q hq⟩
abbrev mG (M : MS) : Nat → Int32 := M.1 0
def mG1 (M : MS) (j : Nat) (v : Int32) : MS := mA M 0 (upd (M.1 0) j v)
theorem narrow_int (v : Int32) : narrow .int (.int v) = .int v := rfl
