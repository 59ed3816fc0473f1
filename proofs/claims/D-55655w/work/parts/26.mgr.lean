set_option maxRecDepth 100000
def M0 (M N : MS) : Prop := (∀ i, i ≠ 0 → N.1 i = M.1 i) ∧ N.2 = M.2
theorem M0.rf {M : MS} : M0 M M := ⟨fun _ _ => rfl, rfl⟩
theorem M0.tr {M N K : MS} (h1 : M0 M N) (h2 : M0 N K) : M0 M K := ⟨fun i hi => (h2.1 i hi).trans (h1.1 i hi), h2.2.trans h1.2⟩
theorem M0.g1 {M : MS} {j : Nat} {v : Int32} : M0 M (mG1 M j v) := ⟨fun i hi => by simp [mG1, mA, hi], rfl⟩
theorem M0.gA {M : MS} {f : Nat → Int32} : M0 M (mA M 0 f) := ⟨fun i hi => by simp [mA, hi], rfl⟩
/-- the numbers say S now, and nothing else of the object is changed -/
def GP (a : Nat) (ad : Nat → Nat) (σ : AH) (M : MS) (S : AS) (τ : AH) : Prop := ∃ N, MAt τ a ad N ∧ MF a ad σ τ ∧ M0 M N ∧ GR (N.1 0) S
theorem GP.g1 {a : Nat} {ad : Nat → Nat} {σ υ τ : AH} {M N : MS} {S : AS} {j : Nat} {v : Int32} (hF : MF a ad σ υ) (h0 : M0 M N) (h : MAt τ a ad (mG1 N j v) ∧ MF a ad υ τ) (hG : GR (upd (N.1 0) j v) S) : GP a ad σ M S τ := ⟨_, h.1, hF.tr h.2, h0.tr M0.g1, hG⟩
theorem GP.gA {a : Nat} {ad : Nat → Nat} {σ υ τ : AH} {M N : MS} {S : AS} {f : Nat → Int32} (hF : MF a ad σ υ) (h0 : M0 M N) (h : MAt τ a ad (mA N 0 f) ∧ MF a ad υ τ) (hG : GR f S) : GP a ad σ M S τ := ⟨_, h.1, hF.tr h.2, h0.tr M0.gA, hG⟩
theorem GP.tr {a : Nat} {ad : Nat → Nat} {σ υ τ : AH} {M N : MS} {S : AS} (hF : MF a ad σ υ) (h0 : M0 M N) (h : GP a ad υ N S τ) : GP a ad σ M S τ := by
  obtain ⟨K, h1, h2, h3, h4⟩ := h
  exact ⟨K, h1, hF.tr h2, h0.tr h3, h4⟩
theorem sm_fset {f : Nat → Nat} {i n : Nat} (h : i < n) : sm (fset f i (f i + 1)) n = sm f n + 1 := by
  induction n with
  | zero => omega
  | succ n ih =>
    show sm (fset f i (f i + 1)) n + fset f i (f i + 1) n = sm f n + f n + 1
    by_cases e : i = n
    · subst e
      rw [fset_s]
      have : ∀ k, k ≤ i → sm (fset f i (f i + 1)) k = sm f k := by
        intro k
        induction k with
        | zero => intro _; rfl
        | succ k ihk => intro hk; show sm _ k + fset _ _ _ k = sm f k + f k; rw [ihk (by omega), fset_n (by omega)]
      rw [this i (Nat.le_refl _)]
      omega
    · rw [ih (by omega), fset_n (by omega)]
      omega
theorem GR.sHw {g : Nat → Int32} {S : AS} (h : GR g S) (hC : nC S ≤ 24) (hL : ∀ s, s < 8 → (qu S s).length ≤ 8) {m s k : Nat} (hm : m < 24) (hs : s < 8) : GR (upd g (149 + 8 * m + s) (nI k)) (sHw S (fset (hw S) m (fset (hw S m) s k))) := by
  have hc24 := hC
  refine ⟨⟨?_, ?_, ?_, ?_, ?_, fun m' hc' hm' => ?_⟩, fun m' hm' => ⟨?_, ?_, ?_, ?_⟩, fun m' hm' => ⟨?_, ?_⟩, fun m' s' hm' hs' => ?_, fun s' hs' => ⟨?_, ?_, ?_⟩, fun s' i w hs' hw' => ?_⟩
  · rw [pk_un (by omega)]; exact h.1.1
  · rw [pk_un (by omega)]; exact h.1.2.1
  · rw [pk_un (by omega)]; exact h.1.2.2.1
  · rw [pk_un (by omega)]; exact h.1.2.2.2.1
  · rw [pk_un (by omega)]; exact h.1.2.2.2.2.1
  · rw [pk_un (by omega)]; exact h.1.2.2.2.2.2 m' hc' hm'
  · rw [pk_un (by omega)]; exact (h.2.1 m' hm').1
  · rw [pk_un (by omega)]; exact (h.2.1 m' hm').2.1
  · rw [pk_un (by omega)]; exact (h.2.1 m' hm').2.2.1
  · rw [pk_un (by omega)]; exact (h.2.1 m' hm').2.2.2
  · have hm24 : m' < 24 := Nat.lt_of_lt_of_le hm' hC
    rw [pk_un (by omega)]; exact (h.2.2.1 m' hm').1
  · have hm24 : m' < 24 := Nat.lt_of_lt_of_le hm' hC
    rw [pk_un (by omega)]; exact (h.2.2.1 m' hm').2
  · show _ = nI (fset (hw S) m (fset (hw S m) s k) m' s')
    by_cases e1 : m' = m
    · subst e1
      by_cases e2 : s' = s
      · subst e2; rw [pk_us, fset_s, fset_s]
      · rw [pk_un (by omega), fset_s, fset_n e2]; exact h.2.2.2.1 m' s' hm' hs'
    · rw [pk_un (by omega), fset_n e1]; exact h.2.2.2.1 m' s' hm' hs'
  · rw [pk_un (by omega)]; exact (h.2.2.2.2.1 s' hs').1
  · rw [pk_un (by omega)]; exact (h.2.2.2.2.1 s' hs').2.1
  · rw [pk_un (by omega)]; exact (h.2.2.2.2.1 s' hs').2.2
  · have hi8 : i < 8 := Nat.lt_of_lt_of_le (List.getElem?_eq_some_iff.mp hw').1 (hL s' hs')
    rw [pk_un (by omega)]; exact h.2.2.2.2.2 s' i w hs' hw'
theorem GR.sGT {g : Nat → Int32} {S : AS} (h : GR g S) (hC : nC S ≤ 24) (hL : ∀ s, s < 8 → (qu S s).length ≤ 8) {m : Nat} (hm : m < 24) : GR (upd g (5 + 6 * m + 5) (nI (gT S m + 1))) (sGT S (fset (gT S) m (gT S m + 1))) := by
  have hc24 := hC
  refine ⟨⟨?_, ?_, ?_, ?_, ?_, fun m' hc' hm' => ?_⟩, fun m' hm' => ⟨?_, ?_, ?_, ?_⟩, fun m' hm' => ⟨?_, ?_⟩, fun m' s' hm' hs' => ?_, fun s' hs' => ⟨?_, ?_, ?_⟩, fun s' i w hs' hw' => ?_⟩
  · rw [pk_un (by omega)]; exact h.1.1
  · rw [pk_un (by omega)]; exact h.1.2.1
  · rw [pk_un (by omega)]; exact h.1.2.2.1
  · rw [pk_un (by omega)]; exact h.1.2.2.2.1
  · rw [pk_un (by omega)]; exact h.1.2.2.2.2.1
  · rw [pk_un (by omega)]; exact h.1.2.2.2.2.2 m' hc' hm'
  · rw [pk_un (by omega)]; exact (h.2.1 m' hm').1
  · rw [pk_un (by omega)]; exact (h.2.1 m' hm').2.1
  · rw [pk_un (by omega)]; exact (h.2.1 m' hm').2.2.1
  · show _ = nI (fset (gT S) m (gT S m + 1) m')
    by_cases e1 : m' = m
    · subst e1; rw [pk_us, fset_s]
    · rw [pk_un (by omega), fset_n e1]; exact (h.2.1 m' hm').2.2.2
  · have hm24 : m' < 24 := Nat.lt_of_lt_of_le hm' hC
    rw [pk_un (by omega)]; exact (h.2.2.1 m' hm').1
  · have hm24 : m' < 24 := Nat.lt_of_lt_of_le hm' hC
    rw [pk_un (by omega)]; exact (h.2.2.1 m' hm').2
  · rw [pk_un (by omega)]; exact h.2.2.2.1 m' s' hm' hs'
  · rw [pk_un (by omega)]; exact (h.2.2.2.2.1 s' hs').1
  · rw [pk_un (by omega)]; exact (h.2.2.2.2.1 s' hs').2.1
  · rw [pk_un (by omega)]; exact (h.2.2.2.2.1 s' hs').2.2
  · have hi8 : i < 8 := Nat.lt_of_lt_of_le (List.getElem?_eq_some_iff.mp hw').1 (hL s' hs')
    rw [pk_un (by omega)]; exact h.2.2.2.2.2 s' i w hs' hw'
theorem GR.sGN {g : Nat → Int32} {S : AS} (h : GR g S) (hC : nC S ≤ 24) (hL : ∀ s, s < 8 → (qu S s).length ≤ 8) {s : Nat} (hs : s < 8) : GR (upd (upd g (341 + 11 * s + 0) (nI (gN S s + 1))) 2 (nI (sm (gN S) 8 + 1))) (sGN S (fset (gN S) s (gN S s + 1))) := by
  have hc24 := hC
  refine ⟨⟨?_, ?_, ?_, ?_, ?_, fun m' hc' hm' => ?_⟩, fun m' hm' => ⟨?_, ?_, ?_, ?_⟩, fun m' hm' => ⟨?_, ?_⟩, fun m' s' hm' hs' => ?_, fun s' hs' => ⟨?_, ?_, ?_⟩, fun s' i w hs' hw' => ?_⟩
  · rw [pk_un (by omega), pk_un (by omega)]; exact h.1.1
  · rw [pk_un (by omega), pk_un (by omega)]; exact h.1.2.1
  · rw [pk_us]; show _ = nI (sm (fset (gN S) s (gN S s + 1)) 8); rw [sm_fset hs]
  · rw [pk_un (by omega), pk_un (by omega)]; exact h.1.2.2.2.1
  · rw [pk_un (by omega), pk_un (by omega)]; exact h.1.2.2.2.2.1
  · rw [pk_un (by omega), pk_un (by omega)]; exact h.1.2.2.2.2.2 m' hc' hm'
  · rw [pk_un (by omega), pk_un (by omega)]; exact (h.2.1 m' hm').1
  · rw [pk_un (by omega), pk_un (by omega)]; exact (h.2.1 m' hm').2.1
  · rw [pk_un (by omega), pk_un (by omega)]; exact (h.2.1 m' hm').2.2.1
  · rw [pk_un (by omega), pk_un (by omega)]; exact (h.2.1 m' hm').2.2.2
  · have hm24 : m' < 24 := Nat.lt_of_lt_of_le hm' hC
    rw [pk_un (by omega), pk_un (by omega)]; exact (h.2.2.1 m' hm').1
  · have hm24 : m' < 24 := Nat.lt_of_lt_of_le hm' hC
    rw [pk_un (by omega), pk_un (by omega)]; exact (h.2.2.1 m' hm').2
  · rw [pk_un (by omega), pk_un (by omega)]; exact h.2.2.2.1 m' s' hm' hs'
  · show _ = nI (fset (gN S) s (gN S s + 1) s')
    by_cases e1 : s' = s
    · subst e1; rw [pk_un (by omega), pk_us, fset_s]
    · rw [pk_un (by omega), pk_un (by omega), fset_n e1]; exact (h.2.2.2.2.1 s' hs').1
  · rw [pk_un (by omega), pk_un (by omega)]; exact (h.2.2.2.2.1 s' hs').2.1
  · rw [pk_un (by omega), pk_un (by omega)]; exact (h.2.2.2.2.1 s' hs').2.2
  · have hi8 : i < 8 := Nat.lt_of_lt_of_le (List.getElem?_eq_some_iff.mp hw').1 (hL s' hs')
    rw [pk_un (by omega), pk_un (by omega)]; exact h.2.2.2.2.2 s' i w hs' hw'
theorem GR.sWT {g : Nat → Int32} {S : AS} (h : GR g S) (hC : nC S ≤ 24) (hL : ∀ s, s < 8 → (qu S s).length ≤ 8) {m : Nat} (hm : m < 24) : GR (upd (upd g (5 + 6 * m + 4) (nI (wT S m + 1))) 3 (nI (sm (wT S) 24 + 1))) (sWT S (fset (wT S) m (wT S m + 1))) := by
  have hc24 := hC
  refine ⟨⟨?_, ?_, ?_, ?_, ?_, fun m' hc' hm' => ?_⟩, fun m' hm' => ⟨?_, ?_, ?_, ?_⟩, fun m' hm' => ⟨?_, ?_⟩, fun m' s' hm' hs' => ?_, fun s' hs' => ⟨?_, ?_, ?_⟩, fun s' i w hs' hw' => ?_⟩
  · rw [pk_un (by omega), pk_un (by omega)]; exact h.1.1
  · rw [pk_un (by omega), pk_un (by omega)]; exact h.1.2.1
  · rw [pk_un (by omega), pk_un (by omega)]; exact h.1.2.2.1
  · rw [pk_us]; show _ = nI (sm (fset (wT S) m (wT S m + 1)) 24); rw [sm_fset hm]
  · rw [pk_un (by omega), pk_un (by omega)]; exact h.1.2.2.2.2.1
  · rw [pk_un (by omega), pk_un (by omega)]; exact h.1.2.2.2.2.2 m' hc' hm'
  · rw [pk_un (by omega), pk_un (by omega)]; exact (h.2.1 m' hm').1
  · rw [pk_un (by omega), pk_un (by omega)]; exact (h.2.1 m' hm').2.1
  · show _ = nI (fset (wT S) m (wT S m + 1) m')
    by_cases e1 : m' = m
    · subst e1; rw [pk_un (by omega), pk_us, fset_s]
    · rw [pk_un (by omega), pk_un (by omega), fset_n e1]; exact (h.2.1 m' hm').2.2.1
  · rw [pk_un (by omega), pk_un (by omega)]; exact (h.2.1 m' hm').2.2.2
  · have hm24 : m' < 24 := Nat.lt_of_lt_of_le hm' hC
    rw [pk_un (by omega), pk_un (by omega)]; exact (h.2.2.1 m' hm').1
  · have hm24 : m' < 24 := Nat.lt_of_lt_of_le hm' hC
    rw [pk_un (by omega), pk_un (by omega)]; exact (h.2.2.1 m' hm').2
  · rw [pk_un (by omega), pk_un (by omega)]; exact h.2.2.2.1 m' s' hm' hs'
  · rw [pk_un (by omega), pk_un (by omega)]; exact (h.2.2.2.2.1 s' hs').1
  · rw [pk_un (by omega), pk_un (by omega)]; exact (h.2.2.2.2.1 s' hs').2.1
  · rw [pk_un (by omega), pk_un (by omega)]; exact (h.2.2.2.2.1 s' hs').2.2
  · have hi8 : i < 8 := Nat.lt_of_lt_of_le (List.getElem?_eq_some_iff.mp hw').1 (hL s' hs')
    rw [pk_un (by omega), pk_un (by omega)]; exact h.2.2.2.2.2 s' i w hs' hw'
theorem GR.sLG {g : Nat → Int32} {S : AS} (h : GR g S) (hC : nC S ≤ 24) (hL : ∀ s, s < 8 → (qu S s).length ≤ 8) {m : Nat} (hm : m < 24) : GR (upd (upd g (5 + 6 * m + 3) (nI (lG S m + 1))) 4 (nI (sm (lG S) 24 + 1))) (incL S m) := by
  have hc24 := hC
  refine ⟨⟨?_, ?_, ?_, ?_, ?_, fun m' hc' hm' => ?_⟩, fun m' hm' => ⟨?_, ?_, ?_, ?_⟩, fun m' hm' => ⟨?_, ?_⟩, fun m' s' hm' hs' => ?_, fun s' hs' => ⟨?_, ?_, ?_⟩, fun s' i w hs' hw' => ?_⟩
  · rw [pk_un (by omega), pk_un (by omega)]; exact h.1.1
  · rw [pk_un (by omega), pk_un (by omega)]; exact h.1.2.1
  · rw [pk_un (by omega), pk_un (by omega)]; exact h.1.2.2.1
  · rw [pk_un (by omega), pk_un (by omega)]; exact h.1.2.2.2.1
  · rw [pk_us]; show _ = nI (sm (fset (lG S) m (lG S m + 1)) 24); rw [sm_fset hm]
  · rw [pk_un (by omega), pk_un (by omega)]; exact h.1.2.2.2.2.2 m' hc' hm'
  · rw [pk_un (by omega), pk_un (by omega)]; exact (h.2.1 m' hm').1
  · show _ = nI (fset (lG S) m (lG S m + 1) m')
    by_cases e1 : m' = m
    · subst e1; rw [pk_un (by omega), pk_us, fset_s]
    · rw [pk_un (by omega), pk_un (by omega), fset_n e1]; exact (h.2.1 m' hm').2.1
  · rw [pk_un (by omega), pk_un (by omega)]; exact (h.2.1 m' hm').2.2.1
  · rw [pk_un (by omega), pk_un (by omega)]; exact (h.2.1 m' hm').2.2.2
  · have hm24 : m' < 24 := Nat.lt_of_lt_of_le hm' hC
    rw [pk_un (by omega), pk_un (by omega)]; exact (h.2.2.1 m' hm').1
  · have hm24 : m' < 24 := Nat.lt_of_lt_of_le hm' hC
    rw [pk_un (by omega), pk_un (by omega)]; exact (h.2.2.1 m' hm').2
  · rw [pk_un (by omega), pk_un (by omega)]; exact h.2.2.2.1 m' s' hm' hs'
  · rw [pk_un (by omega), pk_un (by omega)]; exact (h.2.2.2.2.1 s' hs').1
  · rw [pk_un (by omega), pk_un (by omega)]; exact (h.2.2.2.2.1 s' hs').2.1
  · rw [pk_un (by omega), pk_un (by omega)]; exact (h.2.2.2.2.1 s' hs').2.2
  · have hi8 : i < 8 := Nat.lt_of_lt_of_le (List.getElem?_eq_some_iff.mp hw').1 (hL s' hs')
    rw [pk_un (by omega), pk_un (by omega)]; exact h.2.2.2.2.2 s' i w hs' hw'
theorem GR.sTH {g : Nat → Int32} {S : AS} (h : GR g S) (hC : nC S ≤ 24) (hL : ∀ s, s < 8 → (qu S s).length ≤ 8) {m : Nat} {b : Bool} (hm : m < 24) : GR (upd g (5 + 6 * m + 0) (bI b)) (sTH S (fset (tH S) m b)) := by
  have hc24 := hC
  refine ⟨⟨?_, ?_, ?_, ?_, ?_, fun m' hc' hm' => ?_⟩, fun m' hm' => ⟨?_, ?_, ?_, ?_⟩, fun m' hm' => ⟨?_, ?_⟩, fun m' s' hm' hs' => ?_, fun s' hs' => ⟨?_, ?_, ?_⟩, fun s' i w hs' hw' => ?_⟩
  · rw [pk_un (by omega)]; exact h.1.1
  · rw [pk_un (by omega)]; exact h.1.2.1
  · rw [pk_un (by omega)]; exact h.1.2.2.1
  · rw [pk_un (by omega)]; exact h.1.2.2.2.1
  · rw [pk_un (by omega)]; exact h.1.2.2.2.2.1
  · rw [pk_un (by omega)]; exact h.1.2.2.2.2.2 m' hc' hm'
  · show _ = bI (fset (tH S) m b m')
    by_cases e1 : m' = m
    · subst e1; rw [pk_us, fset_s]
    · rw [pk_un (by omega), fset_n e1]; exact (h.2.1 m' hm').1
  · rw [pk_un (by omega)]; exact (h.2.1 m' hm').2.1
  · rw [pk_un (by omega)]; exact (h.2.1 m' hm').2.2.1
  · rw [pk_un (by omega)]; exact (h.2.1 m' hm').2.2.2
  · have hm24 : m' < 24 := Nat.lt_of_lt_of_le hm' hC
    rw [pk_un (by omega)]; exact (h.2.2.1 m' hm').1
  · have hm24 : m' < 24 := Nat.lt_of_lt_of_le hm' hC
    rw [pk_un (by omega)]; exact (h.2.2.1 m' hm').2
  · rw [pk_un (by omega)]; exact h.2.2.2.1 m' s' hm' hs'
  · rw [pk_un (by omega)]; exact (h.2.2.2.2.1 s' hs').1
  · rw [pk_un (by omega)]; exact (h.2.2.2.2.1 s' hs').2.1
  · rw [pk_un (by omega)]; exact (h.2.2.2.2.1 s' hs').2.2
  · have hi8 : i < 8 := Nat.lt_of_lt_of_le (List.getElem?_eq_some_iff.mp hw').1 (hL s' hs')
    rw [pk_un (by omega)]; exact h.2.2.2.2.2 s' i w hs' hw'
theorem GR.sNE {g : Nat → Int32} {S : AS} (h : GR g S) (hC : nC S ≤ 24) (hL : ∀ s, s < 8 → (qu S s).length ≤ 8)  : GR (upd g 1 (nI (nE S + 1))) (sNE S (nE S + 1)) := by
  have hc24 := hC
  refine ⟨⟨?_, ?_, ?_, ?_, ?_, fun m' hc' hm' => ?_⟩, fun m' hm' => ⟨?_, ?_, ?_, ?_⟩, fun m' hm' => ⟨?_, ?_⟩, fun m' s' hm' hs' => ?_, fun s' hs' => ⟨?_, ?_, ?_⟩, fun s' i w hs' hw' => ?_⟩
  · rw [pk_un (by omega)]; exact h.1.1
  · rw [pk_us]; rfl
  · rw [pk_un (by omega)]; exact h.1.2.2.1
  · rw [pk_un (by omega)]; exact h.1.2.2.2.1
  · rw [pk_un (by omega)]; exact h.1.2.2.2.2.1
  · rw [pk_un (by omega)]; exact h.1.2.2.2.2.2 m' hc' hm'
  · rw [pk_un (by omega)]; exact (h.2.1 m' hm').1
  · rw [pk_un (by omega)]; exact (h.2.1 m' hm').2.1
  · rw [pk_un (by omega)]; exact (h.2.1 m' hm').2.2.1
  · rw [pk_un (by omega)]; exact (h.2.1 m' hm').2.2.2
  · have hm24 : m' < 24 := Nat.lt_of_lt_of_le hm' hC
    rw [pk_un (by omega)]; exact (h.2.2.1 m' hm').1
  · have hm24 : m' < 24 := Nat.lt_of_lt_of_le hm' hC
    rw [pk_un (by omega)]; exact (h.2.2.1 m' hm').2
  · rw [pk_un (by omega)]; exact h.2.2.2.1 m' s' hm' hs'
  · rw [pk_un (by omega)]; exact (h.2.2.2.2.1 s' hs').1
  · rw [pk_un (by omega)]; exact (h.2.2.2.2.1 s' hs').2.1
  · rw [pk_un (by omega)]; exact (h.2.2.2.2.1 s' hs').2.2
  · have hi8 : i < 8 := Nat.lt_of_lt_of_le (List.getElem?_eq_some_iff.mp hw').1 (hL s' hs')
    rw [pk_un (by omega)]; exact h.2.2.2.2.2 s' i w hs' hw'
theorem GR.sLQ {g : Nat → Int32} {S : AS} (h : GR g S) (hC : nC S ≤ 24) (hL : ∀ s, s < 8 → (qu S s).length ≤ 8) {s v : Nat} (hs : s < 8) : GR (upd g (341 + 11 * s + 1) (nI v)) (sLN S (fset (lQ S) s v)) := by
  have hc24 := hC
  refine ⟨⟨?_, ?_, ?_, ?_, ?_, fun m' hc' hm' => ?_⟩, fun m' hm' => ⟨?_, ?_, ?_, ?_⟩, fun m' hm' => ⟨?_, ?_⟩, fun m' s' hm' hs' => ?_, fun s' hs' => ⟨?_, ?_, ?_⟩, fun s' i w hs' hw' => ?_⟩
  · rw [pk_un (by omega)]; exact h.1.1
  · rw [pk_un (by omega)]; exact h.1.2.1
  · rw [pk_un (by omega)]; exact h.1.2.2.1
  · rw [pk_un (by omega)]; exact h.1.2.2.2.1
  · rw [pk_un (by omega)]; exact h.1.2.2.2.2.1
  · rw [pk_un (by omega)]; exact h.1.2.2.2.2.2 m' hc' hm'
  · rw [pk_un (by omega)]; exact (h.2.1 m' hm').1
  · rw [pk_un (by omega)]; exact (h.2.1 m' hm').2.1
  · rw [pk_un (by omega)]; exact (h.2.1 m' hm').2.2.1
  · rw [pk_un (by omega)]; exact (h.2.1 m' hm').2.2.2
  · have hm24 : m' < 24 := Nat.lt_of_lt_of_le hm' hC
    rw [pk_un (by omega)]; exact (h.2.2.1 m' hm').1
  · have hm24 : m' < 24 := Nat.lt_of_lt_of_le hm' hC
    rw [pk_un (by omega)]; exact (h.2.2.1 m' hm').2
  · rw [pk_un (by omega)]; exact h.2.2.2.1 m' s' hm' hs'
  · rw [pk_un (by omega)]; exact (h.2.2.2.2.1 s' hs').1
  · show _ = nI (fset (lQ S) s v s')
    by_cases e1 : s' = s
    · subst e1; rw [pk_us, fset_s]
    · rw [pk_un (by omega), fset_n e1]; exact (h.2.2.2.2.1 s' hs').2.1
  · rw [pk_un (by omega)]; exact (h.2.2.2.2.1 s' hs').2.2
  · have hi8 : i < 8 := Nat.lt_of_lt_of_le (List.getElem?_eq_some_iff.mp hw').1 (hL s' hs')
    rw [pk_un (by omega)]; exact h.2.2.2.2.2 s' i w hs' hw'
theorem GR.row {g g' : Nat → Int32} {S : AS} (h : GR g S) (hC : nC S ≤ 24) (hL : ∀ s, s < 8 → (qu S s).length ≤ 8) {m s : Nat} {l : List Wi} (hm : m < 24) (hmc : m < nC S) (hs : s < 8) (hl : l.length ≤ 8)
    (hg : ∀ j, (j < 341 + 11 * s + 2 ∨ 341 + 11 * s + 11 ≤ j) → j ≠ 5 + 6 * m + 1 → j ≠ 5 + 6 * m + 2 → g' j = g j)
    (h1 : g' (341 + 11 * s + 2) = nI l.length) (h2 : ∀ i w, l[i]? = some w → g' (341 + 11 * s + (3 + i)) = nI w.1)
    (h3 : m < nC S → g' (5 + 6 * m + 1) = atI (sRow S s l) m ∧ g' (5 + 6 * m + 2) = nI (kindOf (sRow S s l) m))
    (h4 : ∀ m', m' ≠ m → ∀ s', s' < 8 → wishIn m' (qu (sRow S s l) s') = wishIn m' (qu S s')) : GR g' (sRow S s l) := by
  have ha : ∀ m', m' ≠ m → atI (sRow S s l) m' = atI S m' ∧ kindOf (sRow S s l) m' = kindOf S m' := fun m' hn => ⟨by unfold atI; rw [aAt_congr (h4 m' hn)], kindOf_congr (h4 m' hn)⟩
  refine ⟨⟨?_, ?_, ?_, ?_, ?_, fun m' hc' hm' => ?_⟩, fun m' hm' => ⟨?_, ?_, ?_, ?_⟩, fun m' hm' => ?_, fun m' s' hm' hs' => ?_, fun s' hs' => ⟨?_, ?_, ?_⟩, fun s' i w hs' hw' => ?_⟩
  · rw [hg 0 (by omega) (by omega) (by omega)]; exact h.1.1
  · rw [hg 1 (by omega) (by omega) (by omega)]; exact h.1.2.1
  · rw [hg 2 (by omega) (by omega) (by omega)]; exact h.1.2.2.1
  · rw [hg 3 (by omega) (by omega) (by omega)]; exact h.1.2.2.2.1
  · rw [hg 4 (by omega) (by omega) (by omega)]; exact h.1.2.2.2.2.1
  · have hc'' : nC S ≤ m' := hc'
    rw [hg _ (by omega) (by omega) (by omega)]; exact h.1.2.2.2.2.2 m' hc' hm'
  · rw [hg _ (by omega) (by omega) (by omega)]; exact (h.2.1 m' hm').1
  · rw [hg _ (by omega) (by omega) (by omega)]; exact (h.2.1 m' hm').2.1
  · rw [hg _ (by omega) (by omega) (by omega)]; exact (h.2.1 m' hm').2.2.1
  · rw [hg _ (by omega) (by omega) (by omega)]; exact (h.2.1 m' hm').2.2.2
  · have hm24 : m' < 24 := Nat.lt_of_lt_of_le hm' hC
    by_cases e : m' = m
    · subst e; exact h3 hm'
    · obtain ⟨e1, e2⟩ := ha m' e
      rw [e1, e2, hg _ (by omega) (by omega) (by omega), hg _ (by omega) (by omega) (by omega)]
      exact h.2.2.1 m' hm'
  · rw [hg _ (by omega) (by omega) (by omega)]; exact h.2.2.2.1 m' s' hm' hs'
  · rw [hg _ (by omega) (by omega) (by omega)]; exact (h.2.2.2.2.1 s' hs').1
  · rw [hg _ (by omega) (by omega) (by omega)]; exact (h.2.2.2.2.1 s' hs').2.1
  · rw [sRow_q]
    by_cases e : s' = s
    · subst e; rw [if_pos rfl]; exact h1
    · rw [if_neg e, hg _ (by omega) (by omega) (by omega)]; exact (h.2.2.2.2.1 s' hs').2.2
  · rw [sRow_q] at hw'
    by_cases e : s' = s
    · subst e; rw [if_pos rfl] at hw'; exact h2 i w hw'
    · rw [if_neg e] at hw'
      have hi8 : i < 8 := Nat.lt_of_lt_of_le (List.getElem?_eq_some_iff.mp hw').1 (hL s' hs')
      rw [hg _ (by omega) (by omega) (by omega)]
      exact h.2.2.2.2.2 s' i w hs' hw'
