set_option maxRecDepth 100000
def posW (w : Wi) (r : List Wi) : Nat := if w.2.2 then (r.takeWhile (fun x => x.2.2)).length else r.length
theorem tw_le {r : List Wi} : (r.takeWhile (fun x => x.2.2)).length ≤ r.length := (List.takeWhile_sublist _).length_le
theorem posW_le {w : Wi} {r : List Wi} : posW w r ≤ r.length := by
  unfold posW
  split
  · exact tw_le
  · exact Nat.le_refl _
theorem mid_get {α : Type} (a b : List α) (w : α) (i : Nat) : (a ++ w :: b)[i]? = if i < a.length then (a ++ b)[i]? else if i = a.length then some w else (a ++ b)[i - 1]? := by
  by_cases h : i < a.length
  · rw [if_pos h, List.getElem?_append_left h, List.getElem?_append_left h]
  · rw [if_neg h, List.getElem?_append_right (by omega)]
    by_cases e : i = a.length
    · rw [if_pos e, e, Nat.sub_self]; rfl
    · rw [if_neg e, List.getElem?_append_right (by omega)]
      obtain ⟨d, hd⟩ : ∃ d, i - a.length = d + 1 := ⟨i - a.length - 1, by omega⟩
      rw [hd, List.getElem?_cons_succ]
      congr 1
      omega
theorem insW_get (w : Wi) (r : List Wi) (i : Nat) : (insW w r)[i]? = if i < posW w r then r[i]? else if i = posW w r then some w else r[i - 1]? := by
  unfold insW posW
  split
  · have := mid_get (r.takeWhile (fun x => x.2.2)) (r.dropWhile (fun x => x.2.2)) w i
    rw [List.takeWhile_append_dropWhile] at this
    exact this
  · have := mid_get r [] w i
    rw [List.append_nil] at this
    exact this
theorem tw_len {r : List Wi} {p : Nat} (hp : p ≤ r.length) (h1 : ∀ i x, i < p → r[i]? = some x → x.2.2 = true) (h2 : ∀ x, r[p]? = some x → x.2.2 = false) : (r.takeWhile (fun x => x.2.2)).length = p := by
  induction r generalizing p with
  | nil => simp at hp; subst hp; rfl
  | cons y ys ih =>
    cases p with
    | zero =>
      have := h2 y rfl
      rw [List.takeWhile_cons, if_neg (by rw [this]; exact fun z => by cases z)]; rfl
    | succ p =>
      have := h1 0 y (by omega) rfl
      rw [List.takeWhile_cons, if_pos this, List.length_cons, ih (by simpa using hp) (fun i x hi hx => h1 (i + 1) x (by omega) hx) (fun x hx => h2 x hx)]
theorem IV.len7 {S : AS} (h : IV S) {s m : Nat} (hs : s < 8) (ht : tH S m = true) (hn : aAt S m = none) : (qu S s).length ≤ 7 := by
  have h1 := nodup_cn 24 (tH S) (m :: (qu S s).map (fun w => w.1)) (by
    rw [List.nodup_cons]
    refine ⟨fun hm => ?_, h.nd hs⟩
    obtain ⟨w, hq, e⟩ := List.mem_map.mp hm
    exact wishIn_none.mp (aAt_none.mp hn s hs) w hq e) (fun x hx => by
    have h4 := h.c
    rcases List.mem_cons.mp hx with e | e
    · subst e
      exact ⟨ht, by have := h.th ht; omega⟩
    · obtain ⟨w, hq, e⟩ := List.mem_map.mp e
      have h2 := (h.w hs hq).1
      have h3 := h.th h2
      rw [← e]
      exact ⟨h2, by omega⟩)
  rw [List.length_cons, List.length_map] at h1
  have := h.2.2.2.2.2.2.2.2.2
  omega
