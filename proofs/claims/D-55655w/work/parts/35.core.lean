set_option maxRecDepth 100000
-- ===== the whole of what moves: the larder, what was kept of it, the last reason =====
abbrev CS : Type := AS × List AS × Int32 × Int32
def pushP (past : List AS) (S : AS) : List AS := if past.length = 8 then past.drop 1 ++ [S] else past ++ [S]
def doR (wi : Bool) (c : CS) (r : AR) : Int32 × CS := match r with
  | .inl (x, d) => (-14, (c.1, c.2.1, nI x, nI d))
  | .inr (S, t) => (nI t, (S, if wi then c.2.1 else pushP c.2.1 c.1, c.2.2))
def isT (S : AS) (v : Int32) : Bool := decide (0 ≤ v) && decide (v < nI (nC S)) && tH S v.toNatClampNeg
def isS (v : Int32) : Bool := decide (0 ≤ v) && decide (v ≤ 7)
def coMaid (wi : Bool) (c : CS) : Int32 × CS := doR wi c (opMaid c.1)
noncomputable def coWant (wi : Bool) (c : CS) (m s : Int32) (sole : Bool) : Int32 × CS := if isT c.1 m && isS s then doR wi c (opWant c.1 m.toNatClampNeg s.toNatClampNeg (if sole then 2 else 1)) else (-11, c)
def coFree (wi : Bool) (c : CS) (m s : Int32) : Int32 × CS := if isT c.1 m && isS s then doR wi c (opFree c.1 m.toNatClampNeg s.toNatClampNeg) else (-11, c)
def coEnd (wi : Bool) (c : CS) (m : Int32) : Int32 × CS := if isT c.1 m then doR wi c (.inr (opEnd c.1 m.toNatClampNeg)) else (-11, c)
theorem i32_of {v : Int32} {n : Nat} (h0 : 0 ≤ v) (h : v < nI n) (hn : n < 2 ^ 31) : ∃ j, j < n ∧ v = nI j ∧ v.toNatClampNeg = j := by
  have h0' : (0 : Int) ≤ v.toInt := by have := Int32.le_iff_toInt_le.mp h0; simpa using this
  have h1 : v.toInt < (n : Int) := by have := Int32.lt_iff_toInt_lt.mp h; rw [nI_toInt hn] at this; exact this
  refine ⟨v.toInt.toNat, by omega, ?_, rfl⟩
  apply Int32.toInt_inj.mp
  rw [nI_toInt (by omega)]
  omega
theorem isT_of {S : AS} {v : Int32} (hC : nC S ≤ 24) (h : isT S v = true) : ∃ j, j < nC S ∧ v = nI j ∧ v.toNatClampNeg = j ∧ tH S j = true := by
  unfold isT at h
  simp only [Bool.and_eq_true, decide_eq_true_eq] at h
  obtain ⟨j, h1, h2, h3⟩ := i32_of h.1.1 h.1.2 (by omega)
  exact ⟨j, h1, h2, h3, by rw [← h3]; exact h.2⟩
theorem isS_of {v : Int32} (h : isS v = true) : ∃ j, j < 8 ∧ v = nI j ∧ v.toNatClampNeg = j := by
  unfold isS at h
  simp only [Bool.and_eq_true, decide_eq_true_eq] at h
  refine i32_of h.1 ?_ (by decide)
  have h2 := Int32.le_iff_toInt_le.mp h.2
  apply Int32.lt_iff_toInt_lt.mpr
  have e1 : (7 : Int32).toInt = 7 := by decide
  have e2 : (nI 8).toInt = 8 := by decide
  omega
theorem le_pred {v : Int32} {c : Nat} (hc : c < 2 ^ 30) : decide (v ≤ nI c - nI 1) = decide (v < nI c) := by
  have e : (nI c - nI 1).toInt = (c : Int) - 1 := by
    have := pk_sub_toInt (a := c) (b := 1) hc (by decide)
    simpa using this
  apply decide_eq_decide.mpr
  rw [Int32.le_iff_toInt_le, Int32.lt_iff_toInt_lt, e, nI_toInt (by omega)]
  omega
-- ===== .. on the reference's side =====
def KR (M : MS) (past : List AS) : Prop := M.2 6 = nI past.length ∧ past.length ≤ 8 ∧ ∀ i P, past[i]? = some P → GR (fun j => M.1 1 (429 * i + j)) P
def CR (M : MS) (c : CS) : Prop := GR (M.1 0) c.1 ∧ KR M c.2.1 ∧ M.2 8 = c.2.2.1 ∧ M.2 9 = c.2.2.2
def MP (M N : MS) : Prop := (∀ i, i ≠ 0 → i ≠ 1 → N.1 i = M.1 i) ∧ ∀ j, j ≠ 6 → j ≠ 8 → j ≠ 9 → j ≠ 14 → N.2 j = M.2 j
theorem MP.rf {M : MS} : MP M M := ⟨fun _ _ _ => rfl, fun _ _ _ _ _ => rfl⟩
theorem MP.tr {M N K : MS} (h1 : MP M N) (h2 : MP N K) : MP M K := ⟨fun i a b => (h2.1 i a b).trans (h1.1 i a b), fun j a b c d => (h2.2 j a b c d).trans (h1.2 j a b c d)⟩
theorem M0.mp {M N : MS} (h : M0 M N) : MP M N := ⟨fun i a _ => h.1 i a, fun j _ _ _ _ => by rw [h.2]⟩
theorem GR.fun {g g' : Nat → Int32} {S : AS} (h : GR g S) (hC : nC S ≤ 24) (hL : ∀ s, s < 8 → (qu S s).length ≤ 8) (he : ∀ j, j < 429 → g' j = g j) : GR g' S := by
  refine ⟨⟨?_, ?_, ?_, ?_, ?_, fun m hc hm => ?_⟩, fun m hm => ?_, fun m hm => ?_, fun m s hm hs => ?_, fun s hs => ?_, fun s i w hs hi => ?_⟩
  · rw [he 0 (by omega)]; exact h.1.1
  · rw [he 1 (by omega)]; exact h.1.2.1
  · rw [he 2 (by omega)]; exact h.1.2.2.1
  · rw [he 3 (by omega)]; exact h.1.2.2.2.1
  · rw [he 4 (by omega)]; exact h.1.2.2.2.2.1
  · rw [he _ (by omega)]; exact h.1.2.2.2.2.2 m hc hm
  · rw [he _ (by omega), he _ (by omega), he _ (by omega), he _ (by omega)]; exact h.2.1 m hm
  · have : m < 24 := Nat.lt_of_lt_of_le hm hC
    rw [he _ (by omega), he _ (by omega)]; exact h.2.2.1 m hm
  · rw [he _ (by omega)]; exact h.2.2.2.1 m s hm hs
  · rw [he _ (by omega), he _ (by omega), he _ (by omega)]; exact h.2.2.2.2.1 s hs
  · have : i < 8 := Nat.lt_of_lt_of_le (List.getElem?_eq_some_iff.mp hi).1 (hL s hs)
    rw [he _ (by omega)]; exact h.2.2.2.2.2 s i w hs hi
theorem IV.ex {g g' : Nat → Int32} {S : AS} (hI : IV S) (h : GR g S) (he : ∀ j, j < 429 → g' j = g j) : GR g' S := h.fun hI.c (fun s hs => hI.len hs) he
def IVs (c : CS) : Prop := IV c.1 ∧ ∀ P ∈ c.2.1, IV P
theorem cpy_step {f g : Nat → Int32} {sp dp k : Nat} : upd (va_cpy f g sp dp k) (dp + k) (f (sp + k)) = va_cpy f g sp dp (k + 1) := by
  funext j
  unfold upd va_cpy
  by_cases e : j = dp + k
  · subst e
    have h1 : dp ≤ dp + k ∧ dp + k < dp + (k + 1) := by omega
    rw [if_pos rfl, if_pos h1]
    congr 1
    omega
  · rw [if_neg e]
    by_cases h : dp ≤ j ∧ j < dp + k
    · rw [if_pos h, if_pos (by omega)]
    · rw [if_neg h, if_neg (by omega)]
theorem cpy_0 {f g : Nat → Int32} {sp dp : Nat} : va_cpy f g sp dp 0 = g := by
  funext j
  unfold va_cpy
  rw [if_neg (by omega)]
