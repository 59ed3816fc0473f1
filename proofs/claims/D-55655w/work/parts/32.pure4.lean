set_option maxRecDepth 100000
-- ===== who waits for whom =====
theorem aheadL_get {m : Nat} {r : List Wi} {k : Nat} (h : k < (aheadL m r).length) : ∃ w, r[k]? = some w ∧ w.1 ≠ m ∧ (aheadL m r)[k]? = some w.1 := by
  induction r generalizing k with
  | nil => simp [aheadL] at h
  | cons w ws ih =>
    unfold aheadL at h ⊢
    by_cases e : w.1 = m
    · rw [if_pos e] at h; simp at h
    · rw [if_neg e] at h ⊢
      cases k with
      | zero => exact ⟨w, rfl, e, rfl⟩
      | succ k => exact ih (by simpa using h)
theorem aheadL_end {m : Nat} {r : List Wi} (h : inRow m r = true) : ∃ w, r[(aheadL m r).length]? = some w ∧ w.1 = m := by
  induction r with
  | nil => simp [inRow] at h
  | cons w ws ih =>
    unfold aheadL
    by_cases e : w.1 = m
    · rw [if_pos e]; exact ⟨w, rfl, e⟩
    · rw [if_neg e, List.length_cons, List.getElem?_cons_succ]
      refine ih ?_
      obtain ⟨x, hx, ex⟩ := inRow_iff.mp h
      rcases List.mem_cons.mp hx with z | z
      · rw [z] at ex; exact absurd ex e
      · exact inRow_iff.mpr ⟨x, z, ex⟩
theorem aheadL_mem {m o : Nat} {r : List Wi} (h : o ∈ aheadL m r) : ∃ w ∈ r, w.1 = o := by
  obtain ⟨k, hk, e⟩ := List.mem_iff_getElem.mp h
  obtain ⟨w, h1, -, h2⟩ := aheadL_get hk
  rw [List.getElem?_eq_getElem hk, e] at h2
  exact ⟨w, List.mem_of_getElem? h1, (Option.some.inj h2).symm⟩
theorem edge_at {S : AS} {m s o : Nat} (h : aAt S m = some s) : edge S m o = ((decide (o < nC S) && !(o == m) && (hw S o s == 2 || (hw S o s == 1 && kindOf S m == 2))) || (aheadL m (qu S s)).contains o) := by unfold edge; rw [h]
theorem edge_none {S : AS} {m o : Nat} (h : aAt S m = none) : edge S m o = false := by unfold edge; rw [h]
theorem edge_lt {S : AS} (hI : IV S) {m o : Nat} (h : edge S m o = true) : o < nC S := by
  cases ha : aAt S m with
  | none => rw [edge_none ha] at h; cases h
  | some s =>
    rw [edge_at ha, Bool.or_eq_true] at h
    rcases h with h | h
    · simp only [Bool.and_eq_true, decide_eq_true_eq] at h
      exact h.1.1
    · obtain ⟨w, h1, h2⟩ := aheadL_mem (List.contains_iff_mem.mp h)
      rw [← h2]
      exact hI.th (hI.w (aAt_some ha).1 h1).1
theorem reach_lt {S : AS} (hI : IV S) {m o : Nat} (h : reach S m o) : o < nC S := by
  cases h with
  | single h => exact edge_lt hI h
  | tail _ h => exact edge_lt hI h
theorem reach_wait {S : AS} {m o : Nat} (h : reach S m o) : ∃ s, aAt S m = some s := by
  have key : ∀ o, edge S m o = true → ∃ s, aAt S m = some s := by
    intro o h
    cases ha : aAt S m with
    | none => rw [edge_none ha] at h; cases h
    | some s => exact ⟨s, rfl⟩
  induction h with
  | single h => exact key _ h
  | tail _ _ ih => exact ih
/-- a closed set with the first ones in it holds all that is reached -/
theorem reach_closed {S : AS} {m : Nat} {F : Nat → Bool} (h1 : ∀ o, edge S m o = true → F o = true) (h2 : ∀ x, F x = true → ∀ o, edge S x o = true → F o = true) {o : Nat} (h : reach S m o) : F o = true := by
  induction h with
  | single h => exact h1 _ h
  | tail _ h ih => exact h2 _ ih _ h
theorem BS.andnot {z w : Int32} {f g : Nat → Bool} (h1 : BS z f) (h2 : BS w g) : BS (z &&& (w ^^^ (-1))) (fun i => f i && !g i) := fun i hi => by
  rw [b_and, b_xor, b_m1 i hi, h1 i hi, h2 i hi]
  cases decide (i < 24) <;> simp
theorem BS.same {z : Int32} {f g : Nat → Bool} (h1 : BS z f) (h2 : BS z g) {i : Nat} (hi : i < 24) : f i = g i := by
  have := (h1 i (by omega)).symm.trans (h2 i (by omega))
  simpa [hi] using this
theorem BS.diff {z w : Int32} {f g : Nat → Bool} (h1 : BS z f) (h2 : BS w g) (hne : ¬ z = w) (hs : ∀ i, g i = true → f i = true) : ∃ i, i < 24 ∧ f i = true ∧ g i = false := by
  refine Classical.byContradiction (fun hc => hne (h1.eq h2 (fun i hi => ?_)))
  cases hf : f i with
  | false =>
    cases hg : g i with
    | false => rfl
    | true => rw [hs i hg] at hf; cases hf
  | true =>
    cases hg : g i with
    | true => rfl
    | false => exact absurd ⟨i, hi, hf, hg⟩ hc
theorem cn_add {f g : Nat → Bool} {o n : Nat} (h : ∀ i, g i = (f i || i == o)) (ho : f o = false) (hn : o < n) : cn g n = cn f n + 1 := by
  induction n with
  | zero => omega
  | succ n ih =>
    show cn g n + (if g n then 1 else 0) = cn f n + (if f n then 1 else 0) + 1
    by_cases e : o = n
    · subst e
      have hk : ∀ k, k ≤ o → cn g k = cn f k := by
        intro k
        induction k with
        | zero => intro _; rfl
        | succ k ihk =>
          intro hk
          show cn g k + (if g k then 1 else 0) = cn f k + (if f k then 1 else 0)
          have : (k == o) = false := by simp; omega
          rw [ihk (by omega), h k, this, Bool.or_false]
      rw [hk o (Nat.le_refl _), h o, ho]
      simp
    · have : (n == o) = false := by simp; omega
      rw [ih (by omega), h n, this, Bool.or_false]
      omega
-- ===== fewer wait behind each letting go =====
theorem sm_le {f g : Nat → Nat} {n : Nat} (h : ∀ i, i < n → f i ≤ g i) : sm f n ≤ sm g n := by
  induction n with
  | zero => exact Nat.le_refl _
  | succ n ih => exact Nat.add_le_add (ih (fun i hi => h i (by omega))) (h n (by omega))
theorem sm_lt {f g : Nat → Nat} {n k : Nat} (h : ∀ i, i < n → f i ≤ g i) (hk : k < n) (hlt : f k < g k) : sm f n < sm g n := by
  induction n with
  | zero => omega
  | succ n ih =>
    show sm f n + f n < sm g n + g n
    by_cases e : k = n
    · subst e; have := sm_le (n := k) (f := f) (g := g) (fun i hi => h i (by omega)); omega
    · have := ih (fun i hi => h i (by omega)) (by omega)
      have := h n (by omega)
      omega
def QLe (T S : AS) : Prop := ∀ s, s < 8 → (qu T s).length ≤ (qu S s).length
theorem QLe.rf {S : AS} : QLe S S := fun _ _ => Nat.le_refl _
theorem QLe.tr {S T U : AS} (h1 : QLe U T) (h2 : QLe T S) : QLe U S := fun s hs => Nat.le_trans (h1 s hs) (h2 s hs)
theorem QLe.nW {S T : AS} (h : QLe T S) : nW T ≤ nW S := sm_le h
theorem QLe.serve {S : AS} (h : IV S) {s : Nat} (hs : s < 8) : QLe (serve S s).1 S := by
  refine serve_ind (fun S r => QLe r.1 S) hs (fun S _ _ => QLe.rf) (fun S w ws _ hq _ h => h.tr ?_) _ S h rfl
  intro s' _
  show (qu (sRow S s ws) s').length ≤ _
  rw [sRow_q]
  split
  · rename_i e; rw [e, hq]; exact Nat.le_succ _
  · exact Nat.le_refl _
theorem QLe.serveUp {hd : Nat → Bool} {r : AS × Nat} (h : IV r.1) : ∀ k, k ≤ 8 → QLe (serveUp hd r k).1 r.1 := by
  intro k
  induction k with
  | zero => intro _; exact QLe.rf
  | succ k ih =>
    intro hk
    have h1 := ih (by omega)
    unfold Jvm.Pilot.CLarderLocksLaw_law_r9745_23e725.serveUp
    split
    · exact (QLe.serve (IV.iServeUp h k (by omega)) (by omega)).tr h1
    · exact h1
theorem nW_letAll {S : AS} (h : IV S) {m s : Nat} (ha : aAt S m = some s) : nW (letAll S m).1 < nW S := by
  have h1 : IV (clearHw (noMore S m) m) := h.iNoMore.clear (noMore_self h.uq)
  have hq : nW (noMore S m) < nW S := by
    rw [noMore_at ha]
    obtain ⟨hs, w, hw1⟩ := aAt_some ha
    have hr : inRow m (qu S s) = true := by rw [inRow_wish, hw1]; rfl
    have hl := rmW_len (h.nd hs) hr
    refine sm_lt (fun i _ => ?_) hs ?_
    · simp only [sRow_q]
      split
      · rename_i e; rw [e]; omega
      · exact Nat.le_refl _
    · simp only [sRow_q]
      rw [if_pos trivial]
      omega
  refine Nat.lt_of_le_of_lt ?_ hq
  unfold letAll
  rw [ha]
  simp only
  have h2 := h1.iServe (aAt_some ha).1
  exact ((QLe.serveUp h2 8 (Nat.le_refl _)).tr (QLe.serve h1 (aAt_some ha).1)).nW
theorem yg_some {S : AS} {n m : Nat} (h : yg S n = some m) : m < n ∧ reach S m m := by
  induction n with
  | zero => cases h
  | succ n ih =>
    unfold yg at h
    split at h
    · rename_i hr; cases h; exact ⟨by omega, rB_iff.mp hr⟩
    · obtain ⟨a, b⟩ := ih h; exact ⟨by omega, b⟩
theorem young_some {S : AS} {m : Nat} (h : young S = some m) : m < nC S ∧ reach S m m := yg_some h
theorem nW_young {S : AS} (h : IV S) {m : Nat} (hy : young S = some m) : nW (letAll (incL S m) m).1 < nW S := by
  obtain ⟨s, hs⟩ := reach_wait (young_some hy).2
  exact nW_letAll (S := incL S m) h (s := s) hs
theorem nW_pos {S : AS} {m s : Nat} (h : aAt S m = some s) : 0 < nW S := by
  obtain ⟨hs, w, h1⟩ := aAt_some h
  have h2 := (wishIn_some h1).1
  have h3 : 0 < (qu S s).length := List.length_pos_of_mem h2
  exact Nat.lt_of_le_of_lt (Nat.zero_le _) (sm_lt (f := fun _ => 0) (fun i _ => Nat.zero_le _) hs h3)
theorem nW_zero {S : AS} (h : nW S = 0) : young S = none := by
  cases hy : young S with
  | none => rfl
  | some m =>
    obtain ⟨s, hs⟩ := reach_wait (young_some hy).2
    have := nW_pos hs
    omega
