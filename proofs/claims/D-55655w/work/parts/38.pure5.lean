set_option maxRecDepth 100000
def KP (S T : AS) : Prop := nC T = nC S ∧ nE T = nE S ∧ tH T = tH S ∧ lQ T = lQ S ∧ wT T = wT S
theorem KP.rf {S : AS} : KP S S := ⟨rfl, rfl, rfl, rfl, rfl⟩
theorem KP.tr {S T U : AS} (h1 : KP S T) (h2 : KP T U) : KP S U := ⟨h2.1.trans h1.1, h2.2.1.trans h1.2.1, h2.2.2.1.trans h1.2.2.1, h2.2.2.2.1.trans h1.2.2.2.1, h2.2.2.2.2.trans h1.2.2.2.2⟩
theorem KP.sv {S : AS} (h : IV S) {s : Nat} (hs : s < 8) : KP S (serve S s).1 :=
  serve_ind (fun S r => KP S r.1) hs (fun S _ _ => KP.rf) (fun S w ws _ _ _ h => KP.tr (T := giveW (sRow S s ws) s w) ⟨rfl, rfl, rfl, rfl, rfl⟩ h) _ S h rfl
theorem KP.svUp {hd : Nat → Bool} {r : AS × Nat} (h : IV r.1) : ∀ k, k ≤ 8 → KP r.1 (serveUp hd r k).1 := by
  intro k
  induction k with
  | zero => intro _; exact KP.rf
  | succ k ih =>
    intro hk
    have h1 := ih (by omega)
    unfold serveUp
    split
    · exact h1.tr (KP.sv (IV.iServeUp h k (by omega)) (by omega))
    · exact h1
theorem KP.noM {S : AS} {m : Nat} : KP S (noMore S m) := by
  cases h : aAt S m with
  | none => rw [noMore_none h]; exact KP.rf
  | some s => rw [noMore_at h]; exact ⟨rfl, rfl, rfl, rfl, rfl⟩
theorem KP.let {S : AS} (h : IV S) {m : Nat} : KP S (letAll S m).1 := by
  have h1 : IV (clearHw (noMore S m) m) := h.iNoMore.clear (noMore_self h.uq)
  have h2 : KP S (clearHw (noMore S m) m) := KP.tr KP.noM ⟨rfl, rfl, rfl, rfl, rfl⟩
  unfold letAll
  cases ha : aAt S m with
  | none => exact h2.tr (KP.svUp (r := (clearHw (noMore S m) m, 0)) h1 8 (Nat.le_refl _))
  | some s =>
    have hs := (aAt_some ha).1
    exact (h2.tr (KP.sv h1 hs)).tr (KP.svUp (h1.iServe hs) 8 (Nat.le_refl _))
theorem KP.br : ∀ (f : Nat) {S : AS}, IV S → KP S (brk f S) := by
  intro f
  induction f with
  | zero => intro S _; exact KP.rf
  | succ f ih =>
    intro S h
    unfold brk
    cases young S with
    | none => exact KP.rf
    | some m => exact ((show KP S (incL S m) from ⟨rfl, rfl, rfl, rfl, rfl⟩).tr (KP.let h.iIncL)).tr (ih h.iIncL.iLetAll)
theorem bar_none {S : AS} {m s k : Nat} (h : bar S m s k = none) : aAt S m = none ∧ hw S m s ≠ 2 ∧ hw S m s ≠ k := by
  unfold bar at h
  cases ha : aAt S m with
  | some z => rw [ha] at h; cases h
  | none =>
    rw [ha] at h
    simp only at h
    split at h
    · cases h
    · rename_i hn
      exact ⟨rfl, fun z => hn (Or.inl z), fun z => hn (Or.inr z)⟩
theorem wait_lt {S : AS} {m s : Nat} (hI : IV S) (h : aAt S m = some s) : m < nC S := by
  obtain ⟨hs, w, h1⟩ := aAt_some h
  obtain ⟨h2, h3⟩ := wishIn_some h1
  rw [← h3]
  exact hI.th (hI.w hs h2).1
theorem IV.ge {S : AS} (hI : IV S) {m : Nat} (h : nC S ≤ m) : aAt S m = none ∧ tH S m = false ∧ ∀ s, hw S m s = 0 := by
  refine ⟨?_, ?_, fun s => ?_⟩
  · cases ha : aAt S m with
    | none => rfl
    | some s => have := wait_lt hI ha; omega
  · cases ht : tH S m with
    | false => rfl
    | true => have := hI.th ht; omega
  · by_cases e : hw S m s = 0
    · exact e
    · have := hI.th (hI.2.2.2.1 m s e); omega
theorem gr_maid {g : Nat → Int32} {S : AS} (h : GR g S) (hI : IV S) (hC : nC S < 24) : GR (upd (upd (upd g 0 (nI (nC S + 1))) (5 + 6 * nC S + 0) (nI 1)) (5 + 6 * nC S + 1) (-1)) (sNC (sTH S (fset (tH S) (nC S) true)) (nC S + 1)) := by
  obtain ⟨hat, hth, hhw⟩ := hI.ge (Nat.le_refl _)
  have hL : ∀ s, s < 8 → (qu S s).length ≤ 8 := fun s hs => hI.len hs
  refine ⟨⟨?_, ?_, ?_, ?_, ?_, fun m hc hm => ?_⟩, fun m hm => ⟨?_, ?_, ?_, ?_⟩, fun m hm => ?_, fun m s hm hs => ?_, fun s hs => ⟨?_, ?_, ?_⟩, fun s i w hs hi => ?_⟩
  · rw [pk_un (by omega), pk_un (by omega), pk_us]; rfl
  · rw [pk_un (by omega), pk_un (by omega), pk_un (by omega)]; exact h.1.2.1
  · rw [pk_un (by omega), pk_un (by omega), pk_un (by omega)]; exact h.1.2.2.1
  · rw [pk_un (by omega), pk_un (by omega), pk_un (by omega)]; exact h.1.2.2.2.1
  · rw [pk_un (by omega), pk_un (by omega), pk_un (by omega)]; exact h.1.2.2.2.2.1
  · have hc' : nC S + 1 ≤ m := hc
    rw [pk_un (by omega), pk_un (by omega), pk_un (by omega)]; exact h.1.2.2.2.2.2 m (by omega) hm
  · show _ = bI (fset (tH S) (nC S) true m)
    by_cases e : m = nC S
    · subst e; rw [pk_un (by omega), pk_us, fset_s]; rfl
    · rw [pk_un (by omega), pk_un (by omega), pk_un (by omega), fset_n e]; exact (h.2.1 m hm).1
  · rw [pk_un (by omega), pk_un (by omega), pk_un (by omega)]; exact (h.2.1 m hm).2.1
  · rw [pk_un (by omega), pk_un (by omega), pk_un (by omega)]; exact (h.2.1 m hm).2.2.1
  · rw [pk_un (by omega), pk_un (by omega), pk_un (by omega)]; exact (h.2.1 m hm).2.2.2
  · have hm' : m < nC S + 1 := hm
    show _ = atI S m ∧ _ = nI (kindOf S m)
    by_cases e : m = nC S
    · subst e
      rw [pk_us, pk_un (by omega), pk_un (by omega), pk_un (by omega), h.1.2.2.2.2.2 _ (Nat.le_refl _) hC]
      unfold atI kindOf aWish
      rw [hat]
      exact ⟨rfl, rfl⟩
    · rw [pk_un (by omega), pk_un (by omega), pk_un (by omega), pk_un (by omega), pk_un (by omega), pk_un (by omega)]
      exact h.2.2.1 m (by omega)
  · rw [pk_un (by omega), pk_un (by omega), pk_un (by omega)]; exact h.2.2.2.1 m s hm hs
  · rw [pk_un (by omega), pk_un (by omega), pk_un (by omega)]; exact (h.2.2.2.2.1 s hs).1
  · rw [pk_un (by omega), pk_un (by omega), pk_un (by omega)]; exact (h.2.2.2.2.1 s hs).2.1
  · rw [pk_un (by omega), pk_un (by omega), pk_un (by omega)]; exact (h.2.2.2.2.1 s hs).2.2
  · have : i < 8 := Nat.lt_of_lt_of_le (List.getElem?_eq_some_iff.mp hi).1 (hL s hs)
    rw [pk_un (by omega), pk_un (by omega), pk_un (by omega)]; exact h.2.2.2.2.2 s i w hs hi
/-- the answer's whole: cells, what stays, the new core -/
def CP (a : Nat) (ad : Nat → Nat) (σ : AH) (M : MS) (c : CS) (τ : AH) : Prop := ∃ N, MAt τ a ad N ∧ MF a ad σ τ ∧ MP M N ∧ CR N c
theorem MP.s14 {M : MS} {v : Int32} : MP M (mS M 14 v) := ⟨fun _ _ _ => rfl, fun j _ _ _ h => by show (if j = 14 then _ else M.2 j) = _; rw [if_neg h]⟩
theorem KR.of {M N : MS} {past : List AS} (h : KR M past) (h6 : N.2 6 = M.2 6) (h1 : N.1 1 = M.1 1) : KR N past := ⟨h6.trans h.1, h.2.1, fun i P hP => by rw [h1]; exact h.2.2 i P hP⟩
def IQ (S : AS) : Prop := ∀ s, s < 8 → lQ S s ≤ 8
