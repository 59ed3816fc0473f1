set_option maxRecDepth 100000
-- ===== texts =====
def isDg (o : Option Nat) : Bool := match o with
  | none => false
  | some c => decide (48 ≤ c) && decide (c ≤ 57)
def pWord (t : List Nat) : List Nat → Nat → Bool × Nat
  | [], p => (true, p)
  | c :: cs, p => if t[p]? = some c then pWord t cs (p + 1) else (false, p)
def pNum (t : List Nat) : Nat → Nat → Nat → Nat × Nat
  | 0, p, v => (p, v)
  | k + 1, p, v => if isDg t[p]? = true then pNum t k (p + 1) (10 * v + (t.getD p 0 - 48)) else (p, v)
abbrev Cmd : Type := Nat × Nat × Nat
def maidW : List Nat := [109, 97, 105, 100]
def pTail (t : List Nat) (p v : Nat) : Bool × Nat × Cmd :=
  if t[p]? = some 46 then (true, p + 1, (46, v, 0))
  else if t[p]? = some 115 ∨ t[p]? = some 120 ∨ t[p]? = some 45 then
    (if isDg t[p + 1]? = true then (true, (pNum t 1 (p + 1) 0).1, (t.getD p 0, v, (pNum t 1 (p + 1) 0).2)) else (false, p + 1, (0, 0, 0)))
  else (false, p, (0, 0, 0))
def pOrd (t : List Nat) (p : Nat) : Bool × Nat × Cmd :=
  if t[p]? = some 109 then ((pWord t maidW p).1, (pWord t maidW p).2, (109, 0, 0))
  else if isDg t[p]? = true then pTail t (pNum t 2 p 0).1 (pNum t 2 p 0).2
  else (false, p, (0, 0, 0))
def pAll (t : List Nat) : Nat → Nat → Bool × Nat × List Cmd
  | 0, p => (false, p, [])
  | f + 1, p => if (pOrd t p).1 = true then
      (if t[(pOrd t p).2.1]? = some 59 then ((pAll t f ((pOrd t p).2.1 + 1)).1, (pAll t f ((pOrd t p).2.1 + 1)).2.1, (pOrd t p).2.2 :: (pAll t f ((pOrd t p).2.1 + 1)).2.2)
       else (decide ((pOrd t p).2.1 = t.length), (pOrd t p).2.1, [(pOrd t p).2.2]))
    else (false, (pOrd t p).2.1, [])
noncomputable def coCmd (wi : Bool) (c : CS) (x : Cmd) : Int32 × CS :=
  if x.1 = 109 then coMaid wi c else if x.1 = 46 then coEnd wi c (nI x.2.1) else if x.1 = 45 then coFree wi c (nI x.2.1) (nI x.2.2) else coWant wi c (nI x.2.1) (nI x.2.2) (x.1 == 120)
noncomputable def runC : List Cmd → CS → Nat × CS
  | [], c => (0, c)
  | x :: xs, c => if 0 ≤ (coCmd true c x).1 then ((runC xs (coCmd true c x).2).1 + 1, (runC xs (coCmd true c x).2).2) else (0, (coCmd true c x).2)
noncomputable def coRun (c : CS) (t : List Nat) : Int32 × CS :=
  if (pAll t 61 0).1 = true then
    (if (runC (pAll t 61 0).2.2 c).1 < (pAll t 61 0).2.2.length then (-14, (c.1, c.2.1, nI 5, nI (runC (pAll t 61 0).2.2 c).1))
     else (nI (pAll t 61 0).2.2.length, ((runC (pAll t 61 0).2.2 c).2.1, pushP c.2.1 c.1, c.2.2)))
  else (-1000 - nI (pAll t 61 0).2.1, c)
def qAppend (t : List Nat) (v : Int32) : Int32 × List Nat :=
  if decide (nI 32 ≤ v) && decide (v ≤ nI 126) then (if t.length = 60 then (-13, t) else (nI (t.length + 1), t ++ [iN v])) else (-12, t)
-- lines
def numL (n : Nat) : List Nat := (if 9 < n then [48 + n / 10] else []) ++ [48 + n % 10]
def sgL (k : Nat) : Nat := if k = 1 then 115 else 120
def holdL (S : AS) (s : Nat) : Nat → List Nat
  | 0 => []
  | n + 1 => holdL S s n ++ (if hw S n s = 0 then [] else (if cn (heldF S s) n = 0 then [] else [44]) ++ numL n ++ [sgL (hw S n s)])
def waitL (S : AS) (s : Nat) : Nat → List Nat
  | 0 => []
  | k + 1 => waitL S s k ++ (match (qu S s)[k]? with
    | none => []
    | some w => [if k = 0 then 60 else 44] ++ numL w.1 ++ [sgL w.2.1])
def tellL (S : AS) (s : Nat) : List Nat := numL s ++ [58] ++ holdL S s (nC S) ++ waitL S s (qu S s).length
def lockL (S : AS) (m : Nat) : Nat → List Nat
  | 0 => []
  | k + 1 => lockL S m k ++ (if hw S m k = 0 then [] else numL k ++ [sgL (hw S m k)])
def tellML (S : AS) (m : Nat) : List Nat := numL m ++ [61] ++ lockL S m 8 ++ (match aAt S m with
  | none => []
  | some s => [63] ++ numL s ++ [sgL (kindOf S m)])
-- facts
theorem isDg_get {t : List Nat} {p : Nat} (h : isDg t[p]? = true) : ∃ c, t[p]? = some c ∧ 48 ≤ c ∧ c ≤ 57 ∧ t.getD p 0 = c := by
  cases hc : t[p]? with
  | none => rw [hc] at h; cases h
  | some c =>
    rw [hc] at h
    unfold isDg at h
    simp only [Bool.and_eq_true, decide_eq_true_eq] at h
    exact ⟨c, rfl, h.1, h.2, by rw [List.getD_eq_getElem?_getD, hc]; rfl⟩
theorem get_lt {t : List Nat} {p c : Nat} (h : t[p]? = some c) : p < t.length := (List.getElem?_eq_some_iff.mp h).1
theorem pWord_le {t : List Nat} : ∀ (w : List Nat) (p : Nat), p ≤ t.length → p ≤ (pWord t w p).2 ∧ (pWord t w p).2 ≤ t.length ∧ ((pWord t w p).1 = true → (pWord t w p).2 = p + w.length) := by
  intro w
  induction w with
  | nil => intro p hp; exact ⟨Nat.le_refl _, hp, fun _ => rfl⟩
  | cons c cs ih =>
    intro p hp
    unfold pWord
    by_cases h : t[p]? = some c
    · rw [if_pos h]
      have h2 := ih (p + 1) (get_lt h)
      exact ⟨by omega, h2.2.1, fun z => by rw [h2.2.2 z, List.length_cons]; omega⟩
    · rw [if_neg h]; exact ⟨Nat.le_refl _, hp, fun z => by cases z⟩
theorem pNum_le {t : List Nat} : ∀ (k p v : Nat), p ≤ t.length → p ≤ (pNum t k p v).1 ∧ (pNum t k p v).1 ≤ t.length := by
  intro k
  induction k with
  | zero => intro p v hp; exact ⟨Nat.le_refl _, hp⟩
  | succ k ih =>
    intro p v hp
    unfold pNum
    by_cases h : isDg t[p]? = true
    · rw [if_pos h]
      obtain ⟨c, hc, -⟩ := isDg_get h
      have := ih (p + 1) (10 * v + (t.getD p 0 - 48)) (get_lt hc)
      exact ⟨by omega, this.2⟩
    · rw [if_neg h]; exact ⟨Nat.le_refl _, hp⟩
theorem pNum_gt {t : List Nat} {k p v : Nat} (h : isDg t[p]? = true) : p + 1 ≤ (pNum t (k + 1) p v).1 := by
  obtain ⟨c, hc, -⟩ := isDg_get h
  unfold pNum
  rw [if_pos h]
  exact (pNum_le k (p + 1) _ (get_lt hc)).1
theorem pTail_le {t : List Nat} {p v : Nat} (hp : p ≤ t.length) : p ≤ (pTail t p v).2.1 ∧ (pTail t p v).2.1 ≤ t.length ∧ ((pTail t p v).1 = true → p + 1 ≤ (pTail t p v).2.1) := by
  unfold pTail
  by_cases h : t[p]? = some 46
  · rw [if_pos h]; have := get_lt h; exact ⟨Nat.le_succ _, this, fun _ => Nat.le_refl _⟩
  · rw [if_neg h]
    by_cases h2 : t[p]? = some 115 ∨ t[p]? = some 120 ∨ t[p]? = some 45
    · rw [if_pos h2]
      have hl : p < t.length := by rcases h2 with q | q | q <;> exact get_lt q
      by_cases h3 : isDg t[p + 1]? = true
      · rw [if_pos h3]
        have := pNum_le (t := t) 1 (p + 1) 0 hl
        exact ⟨by show p ≤ (pNum t 1 (p + 1) 0).1; omega, this.2, fun _ => this.1⟩
      · rw [if_neg h3]; exact ⟨Nat.le_succ _, hl, fun z => by cases z⟩
    · rw [if_neg h2]; exact ⟨Nat.le_refl _, hp, fun z => by cases z⟩
theorem pOrd_le {t : List Nat} {p : Nat} (hp : p ≤ t.length) : p ≤ (pOrd t p).2.1 ∧ (pOrd t p).2.1 ≤ t.length ∧ ((pOrd t p).1 = true → p + 2 ≤ (pOrd t p).2.1) := by
  unfold pOrd
  by_cases h : t[p]? = some 109
  · rw [if_pos h]
    have := pWord_le (t := t) maidW p hp
    exact ⟨this.1, this.2.1, fun z => by have := this.2.2 z; show p + 2 ≤ (pWord t maidW p).2; rw [this]; exact Nat.le_of_ble_eq_true (by simp [maidW])⟩
  · rw [if_neg h]
    by_cases h2 : isDg t[p]? = true
    · rw [if_pos h2]
      have h3 := pNum_le (t := t) 2 p 0 hp
      have h4 : p + 1 ≤ (pNum t 2 p 0).1 := pNum_gt (k := 1) h2
      have h5 := pTail_le (t := t) (p := (pNum t 2 p 0).1) (v := (pNum t 2 p 0).2) h3.2
      exact ⟨by omega, h5.2.1, fun z => by have := h5.2.2 z; omega⟩
    · rw [if_neg h2]; exact ⟨Nat.le_refl _, hp, fun z => by cases z⟩
theorem pNum_v {t : List Nat} : ∀ (k p v : Nat), v < 10 ^ 2 → (pNum t k p v).2 < 10 ^ (k + 2) := by
  intro k
  induction k with
  | zero => intro p v h; exact h
  | succ k ih =>
    intro p v h
    unfold pNum
    by_cases hd : isDg t[p]? = true
    · rw [if_pos hd]
      obtain ⟨c, hc, h1, h2, h3⟩ := isDg_get hd
      rw [h3]
      have key : ∀ (k p v n : Nat), v < 10 ^ n → (pNum t k p v).2 < 10 ^ (k + n) := by
        intro k
        induction k with
        | zero => intro p v n h; show v < _; rw [Nat.zero_add]; exact h
        | succ k ih =>
          intro p v n h
          unfold pNum
          by_cases hd : isDg t[p]? = true
          · rw [if_pos hd]
            obtain ⟨c, hc, h1, h2, h3⟩ := isDg_get hd
            rw [h3]
            have := ih (p + 1) (10 * v + (c - 48)) (n + 1) (by rw [Nat.pow_succ]; omega)
            rw [show k + 1 + n = k + (n + 1) by omega]
            exact this
          · rw [if_neg hd]
            exact Nat.lt_of_lt_of_le h (Nat.pow_le_pow_right (by decide) (by omega))
      have := key k (p + 1) (10 * v + (c - 48)) 3 (by have : v < 100 := h; show _ < 1000; omega)
      rw [show k + 1 + 2 = k + 3 by omega]
      exact this
    · rw [if_neg hd]
      exact Nat.lt_of_lt_of_le h (Nat.pow_le_pow_right (by decide) (by omega))
theorem div10 {n : Nat} (h : n < 100) : nI n / nI 10 = nI (n / 10) := (by decide +kernel : ∀ n, n < 100 → nI n / nI 10 = nI (n / 10)) n h
theorem rem10 {n : Nat} (h : n < 100) : nI n - nI n / nI 10 * nI 10 = nI (n % 10) := (by decide +kernel : ∀ n, n < 100 → nI n - nI n / nI 10 * nI 10 = nI (n % 10)) n h
theorem i2c_lt {c : Nat} (h : c < 128) : ((nI c).toUInt32 % 65536).toInt32 = nI c := (by decide +kernel : ∀ c, c < 128 → ((nI c).toUInt32 % 65536).toInt32 = nI c) c h
theorem nar_c {c : Nat} (h : c < 128) : vp_nar .char (nI c) = nI c := (by decide +kernel : ∀ c, c < 128 → vp_nar .char (nI c) = nI c) c h
theorem numL_len {n : Nat} : (numL n).length ≤ 2 := by
  unfold numL
  rw [List.length_append]
  split <;> exact Nat.le_of_ble_eq_true rfl
theorem holdL_len {S : AS} {s : Nat} : ∀ n, (holdL S s n).length ≤ 4 * n := by
  intro n
  induction n with
  | zero => exact Nat.le_refl _
  | succ n ih =>
    unfold holdL
    rw [List.length_append]
    have : (if hw S n s = 0 then [] else (if cn (heldF S s) n = 0 then [] else [44]) ++ numL n ++ [sgL (hw S n s)]).length ≤ 4 := by
      split
      · exact Nat.zero_le _
      · rw [List.length_append, List.length_append]
        have := numL_len (n := n)
        have h2 : (if cn (heldF S s) n = 0 then [] else [44]).length ≤ 1 := by split <;> exact Nat.le_of_ble_eq_true rfl
        show _ + _ + 1 ≤ 4
        omega
    omega
theorem waitL_len {S : AS} {s : Nat} : ∀ n, (waitL S s n).length ≤ 4 * n := by
  intro n
  induction n with
  | zero => exact Nat.le_refl _
  | succ n ih =>
    unfold waitL
    rw [List.length_append]
    cases h : (qu S s)[n]? with
    | none => show _ + 0 ≤ _; omega
    | some w =>
      show _ + ([if n = 0 then 60 else 44] ++ numL w.1 ++ [sgL w.2.1]).length ≤ _
      rw [List.length_append, List.length_append]
      have := numL_len (n := w.1)
      show _ + (1 + _ + 1) ≤ _
      omega
theorem lockL_len {S : AS} {m : Nat} : ∀ n, (lockL S m n).length ≤ 3 * n := by
  intro n
  induction n with
  | zero => exact Nat.le_refl _
  | succ n ih =>
    unfold lockL
    rw [List.length_append]
    have : (if hw S m n = 0 then [] else numL n ++ [sgL (hw S m n)]).length ≤ 3 := by
      split
      · exact Nat.zero_le _
      · rw [List.length_append]
        have := numL_len (n := n)
        show _ + 1 ≤ 3
        omega
    omega
theorem le_lt_succ {v : Int32} {n : Nat} (hn : n < 2 ^ 30) (h : v ≤ nI n) : v < nI (n + 1) := by
  have h1 := Int32.le_iff_toInt_le.mp h
  apply Int32.lt_iff_toInt_lt.mpr
  rw [nI_toInt (by omega)] at h1 ⊢
  omega
theorem pWord_y {t cs : List Nat} {c p : Nat} (h : t[p]? = some c) : pWord t (c :: cs) p = pWord t cs (p + 1) := if_pos h
theorem pWord_n {t cs : List Nat} {c p : Nat} (h : ¬ t[p]? = some c) : pWord t (c :: cs) p = (false, p) := if_neg h
theorem pNum_y {t : List Nat} {k p v c : Nat} (h : isDg t[p]? = true) (hc : t.getD p 0 = c) : pNum t (k + 1) p v = pNum t k (p + 1) (10 * v + (c - 48)) := by rw [← hc]; exact if_pos h
theorem pNum_n {t : List Nat} {k p v : Nat} (h : isDg t[p]? = false) : pNum t (k + 1) p v = (p, v) := if_neg (by rw [h]; exact fun z => by cases z)
theorem ite_y {p A B : Prop} [Decidable p] (h : p) (ha : A) : if p then A else B := by rw [if_pos h]; exact ha
theorem ite_n {p A B : Prop} [Decidable p] (h : ¬ p) (hb : B) : if p then A else B := by rw [if_neg h]; exact hb
theorem ite_gy {p A B : Prop} [Decidable p] (h : p) (hi : if p then A else B) : A := by rw [if_pos h] at hi; exact hi
theorem ite_gn {p A B : Prop} [Decidable p] (h : ¬ p) (hi : if p then A else B) : B := by rw [if_neg h] at hi; exact hi
