set_option maxRecDepth 100000
-- ===== the reference's numbers say S =====
def bI (b : Bool) : Int32 := if b then 1 else 0
theorem bI_0 {b : Bool} (h : bI b = 0) : b = false := by cases b <;> simp_all [bI]
theorem bI_1 {b : Bool} (h : ¬ bI b = 0) : b = true := by cases b <;> simp_all [bI]
theorem bI_t : bI true = 1 := rfl
theorem bI_f : bI false = 0 := rfl
theorem bI_z (b : Bool) : narrow .boolean (.int (bI b)) = .int (bI b) := by cases b <;> rfl
/-- the answer v, and nothing written -/
abbrev PS (σ : AH) (v : Int32) : YR → AH → Prop := PI fun z τ => τ = σ ∧ z = v
theorem rS {l : Launch} {y : MethodName} {cc : ByteArray} {nL : Nat} {ret : Option FieldType} {hh : List (Nat × Nat × Nat × Nat)} {G : YG} {R : Room} {Z : YE} {L : List (Nat × Value)} {rest : List Value} {σ : AH} {v0 : Int32} {pcn k' n' : Nat} (h : X l y cc nL ret hh G R Z pcn L (.int v0 :: rest) σ k' n') : ∀ (v : Option Value) (τ : AH), PS σ v0 (.inl v) τ → X l y cc nL ret hh G R Z pcn L (v.toList ++ rest) τ k' n' := fun v τ ⟨z, e, e1, e2⟩ => by
  cases e
  subst e1
  subst e2
  exact h
theorem pS {σ : AH} {v : Int32} : PS σ v (.inl (some (.int v))) σ := ⟨v, rfl, rfl, rfl⟩
theorem pS' {σ : AH} {v w : Int32} (h : w = v) : PS σ v (.inl (some (.int w))) σ := ⟨w, rfl, rfl, h⟩
theorem nEq {a b : Nat} (ha : a < 2 ^ 31) (hb : b < 2 ^ 31) (h : nI a = nI b) : a = b := (nI_eq ha hb).mp h
theorem nLt {a b : Nat} (ha : a < 2 ^ 31) (hb : b < 2 ^ 31) (h : nI a < nI b) : a < b := (nI_ltI ha hb).mp h
theorem nLe {a b : Nat} (ha : a < 2 ^ 31) (hb : b < 2 ^ 31) (h : nI a ≤ nI b) : a ≤ b := (nI_leI ha hb).mp h
theorem nNe {a b : Nat} (ha : a < 2 ^ 31) (hb : b < 2 ^ 31) (h : ¬ nI a = nI b) : a ≠ b := fun z => h (by rw [z])
theorem nNlt {a b : Nat} (ha : a < 2 ^ 31) (hb : b < 2 ^ 31) (h : ¬ nI a < nI b) : b ≤ a := Nat.le_of_not_lt fun z => h ((nI_ltI ha hb).mpr z)
theorem nNle {a b : Nat} (ha : a < 2 ^ 31) (hb : b < 2 ^ 31) (h : ¬ nI a ≤ nI b) : b < a := Nat.lt_of_not_le fun z => h ((nI_leI ha hb).mpr z)
theorem n0 {a : Nat} (ha : a < 2 ^ 31) (h : nI a = 0) : a = 0 := nEq ha (by decide) (h.trans nI_0.symm)
theorem nN0 {a : Nat} (h : ¬ nI a = 0) : a ≠ 0 := fun z => h (by rw [z]; rfl)
def atI (S : AS) (m : Nat) : Int32 := match aAt S m with
  | none => -1
  | some s => nI s
def GR (g : Nat → Int32) (S : AS) : Prop :=
  (g 0 = nI (nC S) ∧ g 1 = nI (nE S) ∧ g 2 = nI (sm (gN S) 8) ∧ g 3 = nI (sm (wT S) 24) ∧ g 4 = nI (sm (lG S) 24) ∧ ∀ m, nC S ≤ m → m < 24 → g (5 + 6 * m + 2) = 0) ∧
  (∀ m, m < 24 → g (5 + 6 * m + 0) = bI (tH S m) ∧ g (5 + 6 * m + 3) = nI (lG S m) ∧ g (5 + 6 * m + 4) = nI (wT S m) ∧ g (5 + 6 * m + 5) = nI (gT S m)) ∧
  (∀ m, m < nC S → g (5 + 6 * m + 1) = atI S m ∧ g (5 + 6 * m + 2) = nI (kindOf S m)) ∧
  (∀ m s, m < 24 → s < 8 → g (149 + 8 * m + s) = nI (hw S m s)) ∧
  (∀ s, s < 8 → g (341 + 11 * s + 0) = nI (gN S s) ∧ g (341 + 11 * s + 1) = nI (lQ S s) ∧ g (341 + 11 * s + 2) = nI (qu S s).length) ∧
  (∀ s i w, s < 8 → (qu S s)[i]? = some w → g (341 + 11 * s + (3 + i)) = nI w.1)
theorem GR.hwE {g : Nat → Int32} {S : AS} (h : GR g S) {m s : Nat} (hm : m < 24) (hs : s < 8) : g (149 + 8 * m + s) = nI (hw S m s) := h.2.2.2.1 m s hm hs
theorem GR.c {g : Nat → Int32} {S : AS} (h : GR g S) : g 0 = nI (nC S) := h.1.1
theorem canB_iff {S : AS} {s m k : Nat} : canB S s m k = true ↔ ∀ o, o < nC S → o ≠ m → (hw S o s = 0 ∨ (k = 1 ∧ hw S o s ≤ 1)) := by
  unfold canB oth
  rw [Bool.or_eq_true, beq_iff_eq, Bool.and_eq_true, beq_iff_eq, beq_iff_eq]
  constructor
  · intro h o ho hn
    rcases h with h | ⟨h1, h2⟩
    · have := mx_le.mp (Nat.le_of_eq h) o ho
      rw [if_neg hn] at this
      exact Or.inl (by omega)
    · have := mx_le.mp (Nat.le_of_eq h2) o ho
      rw [if_neg hn] at this
      exact Or.inr ⟨h1, this⟩
  · intro h
    by_cases hk : k = 1
    · have : mx (fun o => if o = m then 0 else hw S o s) (nC S) ≤ 1 := mx_le.mpr (fun o ho => by
        by_cases e : o = m
        · simp [e]
        · simp only [if_neg e]
          rcases h o ho e with q | ⟨-, q⟩ <;> omega)
      omega
    · have : mx (fun o => if o = m then 0 else hw S o s) (nC S) ≤ 0 := mx_le.mpr (fun o ho => by
        by_cases e : o = m
        · simp [e]
        · simp only [if_neg e]
          rcases h o ho e with q | ⟨q, -⟩
          · omega
          · exact absurd q hk)
      omega
