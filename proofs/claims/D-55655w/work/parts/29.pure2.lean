set_option maxRecDepth 100000
-- ===== what always holds stays =====
theorem mem_tw {α : Type} {p : α → Bool} {l : List α} {x : α} (h : x ∈ l.takeWhile p) : p x = true := by
  induction l with
  | nil => simp at h
  | cons y ys ih =>
    rw [List.takeWhile_cons] at h
    split at h
    · rename_i hp
      rcases List.mem_cons.mp h with e | e
      · rw [e]; exact hp
      · exact ih e
    · simp at h
theorem sRow_self {S : AS} {s : Nat} : sRow S s (qu S s) = S := by
  have h : fset (qu S) s (qu S s) = qu S := funext fun j => by
    unfold fset
    split
    · rename_i e; rw [e]
    · rfl
  unfold sRow sQu
  rw [h]
theorem qu_sRow {S : AS} {s : Nat} {l : List Wi} : qu (sRow S s l) s = l := by rw [sRow_q, if_pos rfl]
theorem mem_rm {m : Nat} {l : List Wi} {w : Wi} (h : w ∈ rmW m l) : w ∈ l ∧ w.1 ≠ m := by
  unfold rmW at h
  obtain ⟨h1, h2⟩ := List.mem_filter.mp h
  exact ⟨h1, by simpa using h2⟩
/-- rows that lose some -/
theorem IV.sub {S : AS} (h : IV S) {s : Nat} {l : List Wi} (hs : l.Sublist (qu S s)) : IV (sRow S s l) := by
  obtain ⟨h1, h2, h3, h4, h5, h6, h7, h8, h9⟩ := h
  have hm : ∀ s' w, w ∈ qu (sRow S s l) s' → w ∈ qu S s' := by
    intro s' w hmw
    rw [sRow_q] at hmw
    split at hmw
    · rename_i e; rw [e]; exact hs.mem hmw
    · exact hmw
  refine ⟨h1, h2, h3, h4, fun s' hs' w hmw => h5 s' hs' w (hm s' w hmw), fun s' hs' => ?_, fun s1 s2 g1 g2 w hmw w' hmw' => h7 s1 s2 g1 g2 w (hm _ _ hmw) w' (hm _ _ hmw'), fun s' hs' => ?_, h9⟩
  · rw [sRow_q]
    split
    · rename_i e; subst e; exact (hs.map _).nodup (h6 _ hs')
    · exact h6 _ hs'
  · rw [sRow_q]
    split
    · rename_i e; subst e; exact (h8 _ hs').sublist hs
    · exact h8 _ hs'
theorem IV.iNoMore {S : AS} (h : IV S) {m : Nat} : IV (noMore S m) := by
  cases h1 : aAt S m with
  | none => rw [noMore_none h1]; exact h
  | some s => rw [noMore_at h1]; exact h.sub List.filter_sublist
/-- how one maid holds changes, but where she waits -/
theorem IV.hwm {S : AS} (h : IV S) {m : Nat} {f : Nat → Nat} (h1 : ∀ s, f s ≤ 2) (h2 : ∀ s, f s ≠ 0 → tH S m = true) (h3 : ∀ s, s < 8 → f s ≠ hw S m s → wishIn m (qu S s) = none) : IV (sHw S (fset (hw S) m f)) := by
  obtain ⟨a1, a2, a3, a4, a5, a6, a7, a8, a9⟩ := h
  refine ⟨a1, a2, fun m' s => ?_, fun m' s => ?_, fun s hs w hmw => ?_, a6, a7, a8, a9⟩
  · show fset (hw S) m f m' s ≤ 2
    by_cases e : m' = m
    · subst e; rw [fset_s]; exact h1 s
    · rw [fset_n e]; exact a3 m' s
  · show fset (hw S) m f m' s ≠ 0 → tH S m' = true
    by_cases e : m' = m
    · subst e; rw [fset_s]; exact h2 s
    · rw [fset_n e]; exact a4 m' s
  · have hb := a5 s hs w hmw
    have he : fset (hw S) m f w.1 s = hw S w.1 s := by
      by_cases e : w.1 = m
      · rw [e, fset_s]
        by_cases e2 : f s = hw S m s
        · exact e2
        · exact absurd e (wishIn_none.mp (h3 s hs e2) w hmw)
      · rw [fset_n e]
    show tH S w.1 = true ∧ _ ∧ fset (hw S) m f w.1 s < _ ∧ w.2.2 = (fset (hw S) m f w.1 s == 1)
    rw [he]
    exact hb
theorem IV.iGiveW {S : AS} (h : IV S) {s : Nat} {w : Wi} (ht : tH S w.1 = true) (hk : w.2.1 ≤ 2) (hn : aAt S w.1 = none) : IV (giveW S s w) := by
  have h1 : IV (sHw S (fset (hw S) w.1 (fset (hw S w.1) s w.2.1))) := by
    refine h.hwm (fun s' => ?_) (fun _ _ => ht) (fun s' hs' _ => aAt_none.mp hn s' hs')
    by_cases e : s' = s
    · subst e; rw [fset_s]; exact hk
    · rw [fset_n e]; exact h.2.2.1 _ _
  exact h1
theorem IV.clear {S : AS} (h : IV S) {m : Nat} (hn : aAt S m = none) : IV (clearHw S m) := by
  refine h.hwm (fun s' => ?_) (fun s' hs => ?_) (fun s' hs' _ => aAt_none.mp hn s' hs')
  · split
    · exact Nat.zero_le _
    · exact h.2.2.1 _ _
  · split at hs
    · exact absurd rfl hs
    · exact h.2.2.2.1 _ _ hs
theorem noMore_head {S : AS} (h : IV S) {s : Nat} (hs : s < 8) {w : Wi} {ws : List Wi} (hq : qu S s = w :: ws) : aAt S w.1 = some s ∧ kindOf S w.1 = w.2.1 ∧ noMore S w.1 = sRow S s ws := by
  have hmw : wishIn w.1 (qu S s) = some w := by rw [hq, wishIn_cons, if_pos rfl]
  have ha := aAt_uq h.uq hs hmw
  refine ⟨ha, ?_, ?_⟩
  · unfold kindOf aWish
    rw [ha]
    simp only
    rw [hmw]
  · rw [noMore_at ha, hq]
    have hnd := h.nd hs
    rw [hq, List.map_cons, List.nodup_cons] at hnd
    congr 1
    unfold rmW
    rw [List.filter_cons]
    simp only [beq_self_eq_true, Bool.not_true, Bool.false_eq_true, if_false]
    apply List.filter_eq_self.mpr
    intro x hx
    have : x.1 ≠ w.1 := fun z => hnd.1 (by rw [← z]; exact List.mem_map_of_mem hx)
    simpa using this
theorem IV.next {S : AS} (h : IV S) {s : Nat} (hs : s < 8) {w : Wi} {ws : List Wi} (hq : qu S s = w :: ws) : IV (giveW (sRow S s ws) s w) := by
  obtain ⟨ha, hk, hn⟩ := noMore_head h hs hq
  have hmw := h.w hs (show w ∈ qu S s by rw [hq]; exact List.mem_cons_self)
  have h1 : IV (sRow S s ws) := by rw [← hn]; exact h.iNoMore
  refine h1.iGiveW hmw.1 (by omega) ?_
  rw [← hn]
  exact noMore_self h.uq
theorem serve_nil {S : AS} {s : Nat} (hq : qu S s = []) : serve S s = (S, 0) := by
  unfold serve
  rw [hq]
  show (sRow S s [], 0) = _
  rw [← hq, sRow_self]
theorem serve_no {S : AS} {s : Nat} {w : Wi} {ws : List Wi} (hq : qu S s = w :: ws) (hc : canB S s w.1 w.2.1 = false) : serve S s = (S, 0) := by
  unfold serve
  rw [hq]
  unfold serveL
  rw [hc, ← hq, sRow_self]
  rfl
theorem serve_yes {S : AS} {s : Nat} {w : Wi} {ws : List Wi} (hq : qu S s = w :: ws) (hc : canB S s w.1 w.2.1 = true) : serve S s = ((serve (giveW (sRow S s ws) s w) s).1, (serve (giveW (sRow S s ws) s w) s).2 + 1) := by
  have hq2 : qu (giveW (sRow S s ws) s w) s = ws := qu_sRow (S := S)
  unfold serve
  rw [hq2, hq]
  conv => lhs; unfold serveL
  rw [if_pos hc]
theorem serve_ind (P : AS → AS × Nat → Prop) {s : Nat} (hs : s < 8) (h0 : ∀ S, IV S → (∀ w ws, qu S s = w :: ws → canB S s w.1 w.2.1 = false) → P S (S, 0))
    (h1 : ∀ S w ws, IV S → qu S s = w :: ws → canB S s w.1 w.2.1 = true → P (giveW (sRow S s ws) s w) (serve (giveW (sRow S s ws) s w) s) → P S ((serve (giveW (sRow S s ws) s w) s).1, (serve (giveW (sRow S s ws) s w) s).2 + 1)) : ∀ (n : Nat) (S : AS), IV S → (qu S s).length = n → P S (serve S s) := by
  intro n
  induction n with
  | zero =>
    intro S h hl
    have hq := List.length_eq_zero_iff.mp hl
    rw [serve_nil hq]
    exact h0 S h (fun w ws z => by rw [hq] at z; cases z)
  | succ n ih =>
    intro S h hl
    cases hq : qu S s with
    | nil => rw [hq] at hl; cases hl
    | cons w ws =>
      cases hc : canB S s w.1 w.2.1 with
      | false =>
        rw [serve_no hq hc]
        refine h0 S h (fun w' ws' z => ?_)
        rw [hq] at z
        cases z
        exact hc
      | true =>
        rw [serve_yes hq hc]
        refine h1 S w ws h hq hc (ih _ (h.next hs hq) ?_)
        have hq2 : qu (giveW (sRow S s ws) s w) s = ws := qu_sRow (S := S)
        rw [hq2]
        rw [hq] at hl
        simpa using hl
theorem IV.iServe {S : AS} (h : IV S) {s : Nat} (hs : s < 8) : IV (serve S s).1 :=
  serve_ind (fun _ r => IV r.1) hs (fun S h _ => h) (fun S w ws _ _ _ h => h) _ S h rfl
theorem IV.iServeUp {hd : Nat → Bool} {r : AS × Nat} (h : IV r.1) : ∀ k, k ≤ 8 → IV (serveUp hd r k).1 := by
  intro k
  induction k with
  | zero => intro _; exact h
  | succ k ih =>
    intro hk
    have := ih (by omega)
    unfold serveUp
    split
    · exact this.iServe (by omega)
    · exact this
theorem IV.iLetAll {S : AS} (h : IV S) {m : Nat} : IV (letAll S m).1 := by
  unfold letAll
  have h1 : IV (clearHw (noMore S m) m) := h.iNoMore.clear (noMore_self h.uq)
  refine IV.iServeUp ?_ 8 (Nat.le_refl _)
  cases ha : aAt S m with
  | none => exact h1
  | some s => exact h1.iServe (aAt_some ha).1
theorem IV.iIncL {S : AS} (h : IV S) {m : Nat} : IV (incL S m) := h
theorem IV.iCnts {S : AS} (h : IV S) : IV (cnts S) := h
theorem IV.iBrk : ∀ (f : Nat) {S : AS}, IV S → IV (brk f S) := by
  intro f
  induction f with
  | zero => intro S h; exact h
  | succ f ih =>
    intro S h
    unfold brk
    cases young S with
    | none => exact h
    | some m => exact ih (h.iIncL.iLetAll)
theorem IV.iWaitW {S : AS} (h : IV S) {s m k : Nat} (hs : s < 8) (ht : tH S m = true) (hk : k = 1 ∨ k = 2) (hlt : hw S m s < k) (hn : aAt S m = none) : IV (waitW S s (m, k, hw S m s == 1)) := by
  obtain ⟨h1, h2, h3, h4, h5, h6, h7, h8, h9⟩ := h
  have hq : ∀ s' w, w ∈ qu (waitW S s (m, k, hw S m s == 1)) s' → (s' = s ∧ w = (m, k, hw S m s == 1)) ∨ w ∈ qu S s' := by
    intro s' w hmw
    have hmw : w ∈ qu (sRow S s (insW (m, k, hw S m s == 1) (qu S s))) s' := hmw
    rw [sRow_q] at hmw
    split at hmw
    · rename_i e
      subst e
      rcases insW_mem.mp hmw with z | z
      · exact Or.inl ⟨rfl, z⟩
      · exact Or.inr z
    · exact Or.inr hmw
  have hno : ∀ s', s' < 8 → ∀ w ∈ qu S s', w.1 ≠ m := fun s' hs' => wishIn_none.mp (aAt_none.mp hn s' hs')
  refine ⟨h1, h2, h3, h4, fun s' hs' w hmw => ?_, fun s' hs' => ?_, fun s1 s2 g1 g2 w hmw w' hmw' e => ?_, fun s' hs' => ?_, h9⟩
  · rcases hq s' w hmw with ⟨e1, e2⟩ | z
    · subst e1; subst e2
      exact ⟨ht, hk, hlt, rfl⟩
    · exact h5 s' hs' w z
  · show ((qu (sRow S s (insW (m, k, hw S m s == 1) (qu S s))) s').map (fun w => w.1)).Nodup
    rw [sRow_q]
    split
    · rename_i e
      subst e
      obtain ⟨a, b, e1, e2⟩ := insW_split (m, k, hw S m s' == 1) (qu S s')
      have hnd := h6 s' hs'
      rw [e2]
      rw [e1] at hnd
      rw [List.map_append, List.map_cons, List.perm_middle.nodup_iff, List.nodup_cons]
      rw [List.map_append] at hnd
      refine ⟨fun hm => ?_, hnd⟩
      rw [← List.map_append, ← e1] at hm
      obtain ⟨w, hmw, e⟩ := List.mem_map.mp hm
      exact hno s' hs' w hmw e
    · exact h6 s' hs'
  · rcases hq s1 w hmw with ⟨a1, a2⟩ | z <;> rcases hq s2 w' hmw' with ⟨b1, b2⟩ | z'
    · rw [a1, b1]
    · subst a2; exact absurd e.symm (hno s2 g2 w' z')
    · subst b2; exact absurd e (hno s1 g1 w z)
    · exact h7 s1 s2 g1 g2 w z w' z' e
  · show (qu (sRow S s (insW (m, k, hw S m s == 1) (qu S s))) s').Pairwise _
    rw [sRow_q]
    split
    · rename_i e
      subst e
      unfold insW
      split
      · rename_i hst
        have hp := h8 s' hs'
        have htw : ∀ x ∈ (qu S s').takeWhile (fun x => x.2.2), x.2.2 = true := fun x hx => mem_tw (p := fun x : Wi => x.2.2) hx
        rw [List.pairwise_append, List.pairwise_cons]
        refine ⟨hp.sublist (List.takeWhile_sublist _), ⟨fun x hx _ => hst, hp.sublist (List.dropWhile_sublist _)⟩, fun x hx x' hx' _ => htw x hx⟩
      · rename_i hst
        rw [List.pairwise_append]
        refine ⟨h8 s' hs', List.pairwise_singleton _ _, fun x hx x' hx' hb => ?_⟩
        rw [List.mem_singleton] at hx'
        subst hx'
        exact absurd hb hst
    · exact h8 s' hs'
