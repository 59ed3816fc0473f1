set_option maxRecDepth 100000
-- ===== rows of those who wait =====
theorem wishIn_some {m : Nat} {l : List Wi} {w : Wi} (h : wishIn m l = some w) : w ∈ l ∧ w.1 = m := by
  unfold wishIn at h
  exact ⟨List.mem_of_find?_eq_some h, by have := List.find?_some h; simpa using this⟩
theorem wishIn_none {m : Nat} {l : List Wi} : wishIn m l = none ↔ ∀ w ∈ l, w.1 ≠ m := by
  unfold wishIn
  rw [List.find?_eq_none]
  simp
theorem inRow_iff {m : Nat} {l : List Wi} : inRow m l = true ↔ ∃ w ∈ l, w.1 = m := by
  unfold inRow
  simp
theorem inRow_wish {m : Nat} {l : List Wi} : inRow m l = (wishIn m l).isSome := by
  cases h : wishIn m l with
  | none =>
    rw [Option.isSome_none, Bool.eq_false_iff]
    intro h2
    obtain ⟨w, h3, h4⟩ := inRow_iff.mp h2
    exact wishIn_none.mp h w h3 h4
  | some w => exact inRow_iff.mpr ⟨w, wishIn_some h⟩
theorem wishIn_rm {m m' : Nat} {l : List Wi} (h : m' ≠ m) : wishIn m' (rmW m l) = wishIn m' l := by
  unfold wishIn rmW
  induction l with
  | nil => rfl
  | cons w ws ih =>
    by_cases e : w.1 = m
    · have h3 : (m == m') = false := by simpa using fun z => h z.symm
      simp [List.filter_cons, e, List.find?_cons, ih, h3]
    · by_cases e' : w.1 = m'
      · simp [List.filter_cons, e, List.find?_cons, e']
        simp [show ¬ m' = m from h, List.find?_cons, e']
      · simp [List.filter_cons, e, List.find?_cons, e', ih]
theorem wishIn_rm_self {m : Nat} {l : List Wi} : wishIn m (rmW m l) = none := by
  rw [wishIn_none]
  intro w hw
  unfold rmW at hw
  have := (List.mem_filter.mp hw).2
  simpa using this
theorem insW_split (w : Wi) (l : List Wi) : ∃ a b, l = a ++ b ∧ insW w l = a ++ w :: b := by
  unfold insW
  split
  · exact ⟨_, _, (List.takeWhile_append_dropWhile).symm, rfl⟩
  · exact ⟨l, [], by simp, rfl⟩
theorem insW_mem {w x : Wi} {l : List Wi} : x ∈ insW w l ↔ x = w ∨ x ∈ l := by
  obtain ⟨a, b, h1, h2⟩ := insW_split w l
  rw [h2, h1]
  simp [or_left_comm]
theorem insW_len {w : Wi} {l : List Wi} : (insW w l).length = l.length + 1 := by
  obtain ⟨a, b, h1, h2⟩ := insW_split w l
  rw [h2, h1]
  simp [Nat.add_assoc]
theorem wishIn_app {m : Nat} {a b : List Wi} : wishIn m (a ++ b) = (wishIn m a).or (wishIn m b) := by
  unfold wishIn
  rw [List.find?_append]
theorem wishIn_cons {m : Nat} {w : Wi} {b : List Wi} : wishIn m (w :: b) = if w.1 = m then some w else wishIn m b := by
  unfold wishIn
  by_cases e : w.1 = m <;> simp [List.find?_cons, e]
theorem wishIn_ins {w : Wi} {l : List Wi} {m : Nat} (h : m ≠ w.1) : wishIn m (insW w l) = wishIn m l := by
  obtain ⟨a, b, h1, h2⟩ := insW_split w l
  rw [h2, h1, wishIn_app, wishIn_app, wishIn_cons, if_neg (fun z => h z.symm)]
theorem wishIn_ins_self {w : Wi} {l : List Wi} (h : wishIn w.1 l = none) : wishIn w.1 (insW w l) = some w := by
  obtain ⟨a, b, h1, h2⟩ := insW_split w l
  have : wishIn w.1 a = none := wishIn_none.mpr (fun x hx => wishIn_none.mp h x (by rw [h1]; exact List.mem_append_left _ hx))
  rw [h2, wishIn_app, this, wishIn_cons, if_pos rfl]
  rfl
-- ===== where a maid waits =====
theorem aAtN_none {S : AS} {m n : Nat} : aAtN S m n = none ↔ ∀ s, s < n → wishIn m (qu S s) = none := by
  induction n with
  | zero => simp [aAtN]
  | succ n ih =>
    unfold aAtN
    constructor
    · intro h s hs
      cases h1 : aAtN S m n with
      | some z => rw [h1] at h; cases h
      | none =>
        rw [h1] at h
        rcases Nat.lt_or_ge s n with q | q
        · exact ih.mp h1 s q
        · rw [show s = n by omega]
          cases h2 : wishIn m (qu S n) with
          | none => rfl
          | some w =>
            have h3 : inRow m (qu S n) = true := by rw [inRow_wish, h2]; rfl
            simp [h3] at h
    · intro h
      rw [ih.mpr (fun s hs => h s (by omega))]
      have h3 : inRow m (qu S n) = false := by rw [inRow_wish, h n (by omega)]; rfl
      simp [h3]
theorem aAtN_some {S : AS} {m n s : Nat} (h : aAtN S m n = some s) : s < n ∧ ∃ w, wishIn m (qu S s) = some w := by
  induction n with
  | zero => simp [aAtN] at h
  | succ n ih =>
    unfold aAtN at h
    cases h1 : aAtN S m n with
    | some z =>
      rw [h1] at h
      cases h
      obtain ⟨g1, g2⟩ := ih h1
      exact ⟨by omega, g2⟩
    | none =>
      rw [h1] at h
      by_cases h3 : inRow m (qu S n) = true
      · simp [h3] at h
        subst h
        rw [inRow_wish] at h3
        exact ⟨by omega, Option.isSome_iff_exists.mp h3⟩
      · simp [h3] at h
theorem aAt_none {S : AS} {m : Nat} : aAt S m = none ↔ ∀ s, s < 8 → wishIn m (qu S s) = none := aAtN_none
theorem aAt_some {S : AS} {m s : Nat} (h : aAt S m = some s) : s < 8 ∧ ∃ w, wishIn m (qu S s) = some w := aAtN_some h
theorem aAtN_congr {S T : AS} {m n : Nat} (h : ∀ s, s < n → wishIn m (qu S s) = wishIn m (qu T s)) : aAtN S m n = aAtN T m n := by
  induction n with
  | zero => rfl
  | succ n ih =>
    unfold aAtN
    rw [ih (fun s hs => h s (by omega)), inRow_wish, inRow_wish, h n (by omega)]
theorem aAt_congr {S T : AS} {m : Nat} (h : ∀ s, s < 8 → wishIn m (qu S s) = wishIn m (qu T s)) : aAt S m = aAt T m := aAtN_congr h
theorem aWish_congr {S T : AS} {m : Nat} (h : ∀ s, s < 8 → wishIn m (qu S s) = wishIn m (qu T s)) : aWish S m = aWish T m := by
  unfold aWish
  rw [aAt_congr h]
  cases h1 : aAt T m with
  | none => rfl
  | some s => exact h s (aAt_some h1).1
theorem kindOf_congr {S T : AS} {m : Nat} (h : ∀ s, s < 8 → wishIn m (qu S s) = wishIn m (qu T s)) : kindOf S m = kindOf T m := by
  unfold kindOf
  rw [aWish_congr h]
theorem sRow_q {S : AS} {s s' : Nat} {l : List Wi} : qu (sRow S s l) s' = if s' = s then l else qu S s' := rfl
def UQ (S : AS) : Prop := ∀ s s', s < 8 → s' < 8 → ∀ w ∈ qu S s, ∀ w' ∈ qu S s', w.1 = w'.1 → s = s'
theorem IV.uq {S : AS} (h : IV S) : UQ S := h.2.2.2.2.2.2.1
theorem aAt_uq {S : AS} (h : UQ S) {m s : Nat} {w : Wi} (hs : s < 8) (hw : wishIn m (qu S s) = some w) : aAt S m = some s := by
  cases h1 : aAt S m with
  | none => rw [aAt_none.mp h1 s hs] at hw; cases hw
  | some z =>
    obtain ⟨g1, w', g2⟩ := aAt_some h1
    obtain ⟨a1, a2⟩ := wishIn_some hw
    obtain ⟨b1, b2⟩ := wishIn_some g2
    rw [h z s g1 hs w' b1 w a1 (by rw [a2, b2])]
theorem aAt_row {S : AS} (h : UQ S) {s : Nat} {w : Wi} (hs : s < 8) (hw : w ∈ qu S s) : aAt S w.1 = some s := by
  cases h1 : wishIn w.1 (qu S s) with
  | none => exact absurd rfl (wishIn_none.mp h1 w hw)
  | some x => exact aAt_uq h hs h1
/-- a maid is taken out of her row -/
theorem noMore_at {S : AS} {m s : Nat} (h : aAt S m = some s) : noMore S m = sRow S s (rmW m (qu S s)) := by unfold noMore; rw [h]
theorem noMore_none {S : AS} {m : Nat} (h : aAt S m = none) : noMore S m = S := by unfold noMore; rw [h]
theorem noMore_wish {S : AS} {m m' s : Nat} (h : m' ≠ m) : wishIn m' (qu (noMore S m) s) = wishIn m' (qu S s) := by
  cases h1 : aAt S m with
  | none => rw [noMore_none h1]
  | some z =>
    rw [noMore_at h1, sRow_q]
    split
    · rename_i e; rw [wishIn_rm h, e]
    · rfl
theorem noMore_self {S : AS} (hu : UQ S) {m : Nat} : aAt (noMore S m) m = none := by
  cases h1 : aAt S m with
  | none => rw [noMore_none h1]; exact h1
  | some z =>
    rw [noMore_at h1, aAt_none]
    intro s hs
    rw [sRow_q]
    split
    · exact wishIn_rm_self
    · rename_i e
      cases h2 : wishIn m (qu S s) with
      | none => rfl
      | some w => exact absurd (Option.some.inj ((aAt_uq hu hs h2).symm.trans h1)) e
theorem noMore_kind {S : AS} (hu : UQ S) {m : Nat} : kindOf (noMore S m) m = 0 := by
  unfold kindOf aWish
  rw [noMore_self hu]
theorem ins_wish {S : AS} {s s' m : Nat} {w : Wi} (h : m ≠ w.1) : wishIn m (qu (sRow S s (insW w (qu S s))) s') = wishIn m (qu S s') := by
  rw [sRow_q]
  split
  · rename_i e; rw [wishIn_ins h, e]
  · rfl
theorem ins_at {S : AS} {s : Nat} {w : Wi} (hs : s < 8) (h : aAt S w.1 = none) : aAt (sRow S s (insW w (qu S s))) w.1 = some s ∧ kindOf (sRow S s (insW w (qu S s))) w.1 = w.2.1 := by
  have h0 := aAt_none.mp h
  have hq : ∀ s', s' < 8 → wishIn w.1 (qu (sRow S s (insW w (qu S s))) s') = if s' = s then some w else none := by
    intro s' hs'
    rw [sRow_q]
    split
    · rename_i e; exact wishIn_ins_self (h0 s hs)
    · exact h0 s' hs'
  have ha : aAt (sRow S s (insW w (qu S s))) w.1 = some s := by
    cases h1 : aAt (sRow S s (insW w (qu S s))) w.1 with
    | none =>
      have := aAt_none.mp h1 s hs
      rw [hq s hs, if_pos rfl] at this
      cases this
    | some z =>
      obtain ⟨g1, x, g2⟩ := aAt_some h1
      rw [hq z g1] at g2
      split at g2
      · rename_i e; rw [e]
      · cases g2
  refine ⟨ha, ?_⟩
  unfold kindOf aWish
  rw [ha]
  simp only
  rw [hq s hs, if_pos rfl]
-- ===== how many =====
theorem rmW_len {m : Nat} {l : List Wi} (hn : (l.map (fun w => w.1)).Nodup) (h : inRow m l = true) : (rmW m l).length + 1 = l.length := by
  induction l with
  | nil => simp [inRow] at h
  | cons w ws ih =>
    rw [List.map_cons, List.nodup_cons] at hn
    by_cases e : w.1 = m
    · have hr : rmW m ws = ws := by
        unfold rmW
        apply List.filter_eq_self.mpr
        intro x hx
        have : x.1 ≠ m := fun z => hn.1 (by rw [e, ← z]; exact List.mem_map_of_mem hx)
        simpa using this
      have : rmW m (w :: ws) = rmW m ws := by unfold rmW; simp [List.filter_cons, e]
      rw [this, hr]; rfl
    · have h2 : inRow m ws = true := by
        obtain ⟨x, hx, hx1⟩ := inRow_iff.mp h
        rcases List.mem_cons.mp hx with z | z
        · rw [z] at hx1; exact absurd hx1 e
        · exact inRow_iff.mpr ⟨x, z, hx1⟩
      have : rmW m (w :: ws) = w :: rmW m ws := by unfold rmW; simp [List.filter_cons, e]
      rw [this, List.length_cons, List.length_cons, ih hn.2 h2]
theorem cn_le {f : Nat → Bool} {n : Nat} : cn f n ≤ n := by
  induction n with
  | zero => exact Nat.le_refl _
  | succ n ih => show cn f n + _ ≤ n + 1; split <;> omega
/-- different maids of a set are no more than the set -/
theorem nodup_cn : ∀ (n : Nat) (f : Nat → Bool) (l : List Nat), l.Nodup → (∀ x ∈ l, f x = true ∧ x < n) → l.length ≤ cn f n := by
  intro n
  induction n with
  | zero =>
    intro f l hn h
    cases l with
    | nil => exact Nat.le_refl _
    | cons x xs => have := (h x List.mem_cons_self).2; omega
  | succ n ih =>
    intro f l hn h
    have h1 := ih f (l.filter (fun x => !(x == n))) (hn.filter _) (fun x hx => by
      obtain ⟨a1, a2⟩ := List.mem_filter.mp hx
      obtain ⟨b1, b2⟩ := h x a1
      have : x ≠ n := by simpa using a2
      exact ⟨b1, by omega⟩)
    show l.length ≤ cn f n + _
    by_cases hx : n ∈ l
    · have hf := (h n hx).1
      rw [if_pos hf]
      have h2 : l.length = (l.filter (fun x => !(x == n))).length + (l.filter (fun x => x == n)).length := by
        have := List.length_eq_countP_add_countP (l := l) (p := fun x => x == n)
        rw [List.countP_eq_length_filter, List.countP_eq_length_filter] at this
        have e2 : l.filter (fun a => decide ¬(a == n) = true) = l.filter (fun x => !(x == n)) := by
          congr 1
          funext a
          cases a == n <;> rfl
        rw [e2] at this
        omega
      have h3 : (l.filter (fun x => x == n)).length ≤ 1 := by
        have : (l.filter (fun x => x == n)) = List.replicate (l.count n) n := List.filter_beq n
        rw [this, List.length_replicate]
        exact List.nodup_iff_count.mp hn n
      omega
    · have : l.filter (fun x => !(x == n)) = l := List.filter_eq_self.mpr (fun x h2 => by
        have : x ≠ n := fun z => hx (z ▸ h2)
        simpa using this)
      rw [this] at h1
      exact Nat.le_trans h1 (Nat.le_add_right _ _)
theorem IV.th {S : AS} (h : IV S) {m : Nat} (hm : tH S m = true) : m < nC S := h.2.1 m hm
theorem IV.c {S : AS} (h : IV S) : nC S ≤ 24 := h.1
theorem IV.w {S : AS} (h : IV S) {s : Nat} (hs : s < 8) {w : Wi} (hq : w ∈ qu S s) : tH S w.1 = true ∧ (w.2.1 = 1 ∨ w.2.1 = 2) ∧ hw S w.1 s < w.2.1 ∧ w.2.2 = (hw S w.1 s == 1) := h.2.2.2.2.1 s hs w hq
theorem IV.nd {S : AS} (h : IV S) {s : Nat} (hs : s < 8) : ((qu S s).map (fun w => w.1)).Nodup := h.2.2.2.2.2.1 s hs
theorem IV.len {S : AS} (h : IV S) {s : Nat} (hs : s < 8) : (qu S s).length ≤ 8 := by
  have h1 := nodup_cn 24 (tH S) ((qu S s).map (fun w => w.1)) (h.nd hs) (fun x hx => by
    obtain ⟨w, hw, e⟩ := List.mem_map.mp hx
    have h2 := (h.w hs hw).1
    have h3 := h.th h2
    have h4 := h.c
    rw [← e]
    exact ⟨h2, by omega⟩)
  rw [List.length_map] at h1
  exact Nat.le_trans h1 h.2.2.2.2.2.2.2.2.2
