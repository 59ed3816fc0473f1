set_option maxRecDepth 100000
-- ===== all that is kept: the core, what was saved, the text, the line =====
abbrev Sys : Type := CS × Option AS × List Nat × List Nat
def TX (M : MS) (t : List Nat) : Prop := t.length ≤ 60 ∧ M.2 11 = nI t.length ∧ ∀ i c, t[i]? = some c → M.1 10 i = nI c ∧ 32 ≤ c ∧ c ≤ 126
def LN (M : MS) (t : List Nat) : Prop := t.length ≤ 200 ∧ M.2 13 = nI t.length ∧ ∀ i c, t[i]? = some c → M.1 12 i = nI c
def SV (M : MS) (o : Option AS) : Prop := M.2 5 = bI o.isSome ∧ ∀ P, o = some P → GR (M.1 2) P
def SR (M : MS) (z : Sys) : Prop := CR M z.1 ∧ M.2 7 = 0 ∧ SV M z.2.1 ∧ TX M z.2.2.1 ∧ LN M z.2.2.2
def SP (a : Nat) (ad : Nat → Nat) (σ : AH) (z : Sys) (τ : AH) : Prop := ∃ N, MAt τ a ad N ∧ MF a ad σ τ ∧ SR N z
theorem SP.rf {a : Nat} {ad : Nat → Nat} {σ : AH} {M : MS} {z : Sys} (hM : MAt σ a ad M) (h : SR M z) : SP a ad σ z σ := ⟨M, hM, MF.rf, h⟩
/-- the core is new, all else stays -/
theorem SP.core {a : Nat} {ad : Nat → Nat} {σ τ : AH} {M : MS} {z : Sys} {c : CS} (h : SR M z) (hC : CP a ad σ M c τ) : SP a ad σ (c, z.2) τ := by
  obtain ⟨N, h1, h2, h3, h4⟩ := hC
  obtain ⟨k1, k2, k3, k4, k5⟩ := h
  refine ⟨N, h1, h2, h4, ?_, ⟨?_, fun P hP => ?_⟩, ⟨k4.1, ?_, fun i c hc => ?_⟩, ⟨k5.1, ?_, fun i c hc => ?_⟩⟩
  · rw [h3.2 7 (by decide) (by decide) (by decide) (by decide)]; exact k2
  · rw [h3.2 5 (by decide) (by decide) (by decide) (by decide)]; exact k3.1
  · rw [h3.1 2 (by decide) (by decide)]; exact k3.2 P hP
  · rw [h3.2 11 (by decide) (by decide) (by decide) (by decide)]; exact k4.2.1
  · rw [h3.1 10 (by decide) (by decide)]; exact k4.2.2 i c hc
  · rw [h3.2 13 (by decide) (by decide) (by decide) (by decide)]; exact k5.2.1
  · rw [h3.1 12 (by decide) (by decide)]; exact k5.2.2 i c hc
/-- only scratch is written -/
def MZq (M N : MS) : Prop := (∀ i, i ≠ 0 → i ≠ 3 → i ≠ 4 → i ≠ 16 → N.1 i = M.1 i) ∧ ∀ j, j ≠ 14 → j ≠ 15 → j ≠ 17 → N.2 j = M.2 j
theorem SR.mq {M N : MS} {z : Sys} (h : SR M z) (hq : MZq M N) (hG : GR (N.1 0) z.1.1) : SR N z := by
  obtain ⟨k1, k2, k3, k4, k5⟩ := h
  refine ⟨⟨hG, k1.2.1.of (hq.2 6 (by decide) (by decide) (by decide)) (hq.1 1 (by decide) (by decide) (by decide) (by decide)), ?_, ?_⟩, ?_, ⟨?_, fun P hP => ?_⟩, ⟨k4.1, ?_, fun i c hc => ?_⟩, ⟨k5.1, ?_, fun i c hc => ?_⟩⟩
  · rw [hq.2 8 (by decide) (by decide) (by decide)]; exact k1.2.2.1
  · rw [hq.2 9 (by decide) (by decide) (by decide)]; exact k1.2.2.2
  · rw [hq.2 7 (by decide) (by decide) (by decide)]; exact k2
  · rw [hq.2 5 (by decide) (by decide) (by decide)]; exact k3.1
  · rw [hq.1 2 (by decide) (by decide) (by decide) (by decide)]; exact k3.2 P hP
  · rw [hq.2 11 (by decide) (by decide) (by decide)]; exact k4.2.1
  · rw [hq.1 10 (by decide) (by decide) (by decide) (by decide)]; exact k4.2.2 i c hc
  · rw [hq.2 13 (by decide) (by decide) (by decide)]; exact k5.2.1
  · rw [hq.1 12 (by decide) (by decide) (by decide) (by decide)]; exact k5.2.2 i c hc
def qReason (r d : Int32) (b : Bool) : Int32 := if r = 0 then -15 else if b then d else r
def qChar (t : List Nat) (p : Int32) : Int32 := if decide (0 ≤ p) && decide (p < nI t.length) then nI (t.getD (iN p) 0) else -11
-- ===== small facts =====
theorem sb_eq {a b : Nat} (ha : a < 2 ^ 30) (hb : b < 2 ^ 30) : nI a - nI b = 0 ↔ a = b := by
  constructor
  · intro h
    have h1 := pk_sub_toInt ha hb
    rw [h] at h1
    have e : (0 : Int32).toInt = 0 := by decide
    omega
  · intro h; rw [h]; exact Int32.sub_self _
theorem sb_gt {a b : Nat} (ha : a < 2 ^ 30) (hb : b < 2 ^ 30) : 0 < nI a - nI b ↔ b < a := by
  rw [Int32.lt_iff_toInt_lt, pk_sub_toInt ha hb]
  have e : (0 : Int32).toInt = 0 := by decide
  omega
theorem sb_le {a b : Nat} (ha : a < 2 ^ 30) (hb : b < 2 ^ 30) : nI a - nI b ≤ 0 ↔ a ≤ b := by
  rw [Int32.le_iff_toInt_le, pk_sub_toInt ha hb]
  have e : (0 : Int32).toInt = 0 := by decide
  omega
theorem isT_nI {S : AS} {k : Nat} (hC : nC S ≤ 24) (h : k < nC S) : isT S (nI k) = tH S k := by
  unfold isT
  rw [show (nI k).toNatClampNeg = k from by
    show (nI k).toInt.toNat = k
    rw [nI_toInt (by omega)]; rfl]
  rw [decide_eq_true (nI_pos' (by omega)), decide_eq_true ((nI_ltI (by omega) (by omega)).mpr h)]
  rfl
theorem BS.bone {o : Nat} (b : Bool) (ho : o < 24) : BS (bI b <<< (nI o &&& 31)) (fun i => b && i == o) := by
  cases b
  · intro i hi
    rw [show bI false = 0 from rfl, b_shl o (by omega) _ hi]
    by_cases q : o ≤ i
    · rw [b_0]; simp
    · simp [q]
  · exact (BS.one ho).to (fun i _ => by simp)
theorem isNd_ne {S : AS} {a b : Nat} (h : (qu S a).length ≠ (qu S b).length) : isNd S a b = decide ((qu S b).length < (qu S a).length) := by unfold isNd; simp [h]
theorem isNd_gt {S : AS} {a b : Nat} (h : (qu S a).length = (qu S b).length) (h2 : cn (heldF S b) (nC S) < cn (heldF S a) (nC S)) : isNd S a b = true := by
  unfold isNd
  rw [decide_eq_true h2, show ((qu S a).length == (qu S b).length) = true by simp [h]]
  simp
theorem isNd_eq {S : AS} {a b : Nat} (h : (qu S a).length = (qu S b).length) (h2 : cn (heldF S a) (nC S) = cn (heldF S b) (nC S)) : isNd S a b = decide (a < b) := by
  unfold isNd
  rw [decide_eq_false (show ¬ cn (heldF S b) (nC S) < cn (heldF S a) (nC S) by omega), decide_eq_false (show ¬ (qu S b).length < (qu S a).length by omega), show ((qu S a).length == (qu S b).length) = true by simp [h], show (cn (heldF S a) (nC S) == cn (heldF S b) (nC S)) = true by simp [h2]]
  simp
theorem isNd_lt {S : AS} {a b : Nat} (h : (qu S a).length = (qu S b).length) (h2 : cn (heldF S a) (nC S) < cn (heldF S b) (nC S)) : isNd S a b = false := by
  unfold isNd
  rw [decide_eq_false (show ¬ cn (heldF S b) (nC S) < cn (heldF S a) (nC S) by omega), decide_eq_false (show ¬ (qu S b).length < (qu S a).length by omega), show (cn (heldF S a) (nC S) == cn (heldF S b) (nC S)) = false by simp; omega]
  simp
theorem isAh_ne {S : AS} {a b : Nat} (h : cn (lockF S a) 8 ≠ cn (lockF S b) 8) : isAh S a b = decide (cn (lockF S b) 8 < cn (lockF S a) 8) := by
  unfold isAh
  rw [show (cn (lockF S a) 8 == cn (lockF S b) 8) = false by simp [h]]
  simp
theorem isAh_eq {S : AS} {a b : Nat} (h : cn (lockF S a) 8 = cn (lockF S b) 8) : isAh S a b = (if (aAt S a).isNone = (aAt S b).isNone then decide (b < a) else (aAt S a).isNone) := by
  unfold isAh
  rw [h, decide_eq_false (Nat.lt_irrefl _)]
  simp
theorem cn_congr {f g : Nat → Bool} : ∀ {n : Nat}, (∀ i, i < n → f i = g i) → cn f n = cn g n := by
  intro n
  induction n with
  | zero => intro _; rfl
  | succ n ih =>
    intro h
    show cn f n + _ = cn g n + _
    rw [ih (fun i hi => h i (by omega)), h n (by omega)]
theorem cn_8 {f : Nat → Bool} : ∀ n, cn f (8 * n) = sm (fun m => cn (fun s => f (8 * m + s)) 8) n := by
  intro n
  induction n with
  | zero => rfl
  | succ n ih =>
    show cn f (8 * n + 8) = sm _ n + cn _ 8
    rw [← ih]
    show cn f (8 * n) + _ + _ + _ + _ + _ + _ + _ + _ = cn f (8 * n) + (0 + _ + _ + _ + _ + _ + _ + _ + _)
    simp only [Nat.add_zero, Nat.zero_add, Nat.add_assoc]
theorem lkN_eq {S : AS} {t : Nat} : cn (fun j => decide (t ≤ hw S (j / 8) (j % 8))) 192 = lkN S t := by
  rw [show 192 = 8 * 24 from rfl, cn_8]
  unfold lkN
  congr 1
  funext m
  refine cn_congr (fun s hs => ?_)
  rw [show (8 * m + s) / 8 = m by omega, show (8 * m + s) % 8 = s by omega]
theorem sm_bound {f : Nat → Nat} {c : Nat} : ∀ n, (∀ i, i < n → f i ≤ c) → sm f n ≤ n * c := by
  intro n
  induction n with
  | zero => intro _; exact Nat.zero_le _
  | succ n ih =>
    intro h
    have := ih (fun i hi => h i (by omega))
    have := h n (by omega)
    show sm f n + f n ≤ _
    rw [Nat.succ_mul]; omega
theorem lkN_le {S : AS} {t : Nat} : lkN S t ≤ 192 := by
  have : lkN S t ≤ 24 * 8 := sm_bound 24 (fun i _ => cn_le)
  omega
theorem nW_le {S : AS} (hI : IV S) : nW S ≤ 64 := by
  have : nW S ≤ 8 * 8 := sm_bound 8 (fun i hi => hI.len hi)
  omega
theorem cn_zero_of {f : Nat → Bool} {i : Nat} : ∀ n, i < n → f i = true → cn f n ≠ 0 := by
  intro n
  induction n with
  | zero => intro h; omega
  | succ n ih =>
    intro h hf
    show cn f n + _ ≠ 0
    by_cases e : i = n
    · subst e; rw [if_pos hf]; omega
    · have := ih (by omega) hf; omega
theorem chN_le {S : AS} : ∀ (f m : Nat), chN f S m ≤ f := by
  intro f
  induction f with
  | zero => intro m; exact Nat.le_refl _
  | succ f ih =>
    intro m
    have : mx (fun o => if edge S m o then chN f S o else 0) (nC S) ≤ f := mx_le.mpr (fun o _ => by
      by_cases e : edge S m o = true
      · simp only [e, if_true]; exact ih o
      · simp only [e]; exact Nat.zero_le _)
    show _ + 1 ≤ _
    omega
theorem ddiv_ok {a b : Nat} (ha : a ≤ 192) (hb : b ≤ 8) (h0 : b ≠ 0) : vf_n64 (FP.ddiv (FP.i2d (nI a)) (FP.i2d (nI b))) := by
  have key : ∀ a, a < 193 → ∀ b, b < 8 → (FP.ddiv (FP.i2d (nI a)) (FP.i2d (nI (b + 1)))) &&& 0x7fffffffffffffff ≤ 0x7ff0000000000000 := by decide +kernel
  have := key a (by omega) (b - 1) (by omega)
  rw [show b - 1 + 1 = b by omega] at this
  exact this
theorem fdiv_ok {a b : Nat} (ha : a ≤ 64) (hb : b ≤ 8) (h0 : b ≠ 0) : vf_n32 (FP.fdiv (FP.i2f (nI a)) (FP.i2f (nI b))) := by
  have key : ∀ a, a < 65 → ∀ b, b < 8 → (FP.fdiv (FP.i2f (nI a)) (FP.i2f (nI (b + 1)))) &&& 0x7fffffff ≤ 0x7f800000 := by decide +kernel
  have := key a (by omega) (b - 1) (by omega)
  rw [show b - 1 + 1 = b by omega] at this
  exact this
