set_option maxRecDepth 100000
-- ===== what is answered, as plain functions =====
theorem cn_t {f : Nat → Bool} {i : Nat} (h : f i = true) : cn f (i + 1) = cn f i + 1 := by show cn f i + _ = _; rw [if_pos h]
theorem cn_f {f : Nat → Bool} {i : Nat} (h : f i = false) : cn f (i + 1) = cn f i + 0 := by show cn f i + _ = _; rw [if_neg (by rw [h]; exact fun z => by cases z)]
/-- the first k of f whose number is p -/
def pickF (f : Nat → Bool) (g : Nat → Nat) (p : Int32) : Nat → Nat → Int32
  | 0, _ => -11
  | d + 1, k => if f k = true ∧ nI (g k) = p then nI k else pickF f g p d (k + 1)
theorem pickF_y {f : Nat → Bool} {g : Nat → Nat} {p : Int32} {d k : Nat} (h1 : f k = true) (h2 : nI (g k) = p) : pickF f g p (d + 1) k = nI k := if_pos ⟨h1, h2⟩
theorem pickF_n {f : Nat → Bool} {g : Nat → Nat} {p : Int32} {d k : Nat} (h : f k = false ∨ nI (g k) ≠ p) : pickF f g p (d + 1) k = pickF f g p d (k + 1) := if_neg fun z => by
  rcases h with h | h
  · rw [z.1] at h; cases h
  · exact h z.2
abbrev lockF (S : AS) (m : Nat) : Nat → Bool := fun k => !(hw S m k == 0)
abbrev heldF (S : AS) (s : Nat) : Nat → Bool := fun o => !(hw S o s == 0)
def ahd (S : AS) (m : Nat) : Nat := match aAt S m with
  | none => 0
  | some s => (aheadL m (qu S s)).length
def solF (S : AS) (s : Nat) : Nat → Bool := fun k => match (qu S s)[k]? with
  | none => false
  | some w => w.2.1 == 2
def atV (S : AS) (m : Nat) : Int32 := match aAt S m with
  | none => -15
  | some s => nI s
noncomputable def mOf (S : AS) (m : Nat) (w : Int32) : Int32 :=
  if w = nI 0 then nI (cn (lockF S m) 8) else if w = nI 1 then atV S m else if w = nI 2 then nI (ahd S m) else if w = nI 3 then nI (lG S m) else if w = nI 4 then encB (edge S m) else if w = nI 5 then nI (wT S m) else if w = nI 6 then nI (gT S m) else -12
def sOf (S : AS) (s : Nat) (w : Int32) : Int32 :=
  if w = nI 0 then nI (cn (heldF S s) (nC S)) else if w = nI 1 then nI (mx (fun o => hw S o s) (nC S)) else if w = nI 2 then nI (qu S s).length else if w = nI 3 then nI (cn (solF S s) (qu S s).length) else if w = nI 4 then nI (gN S s) else if w = nI 5 then nI (lQ S s) else -12
abbrev iN (v : Int32) : Nat := v.toNatClampNeg
def qHolds (S : AS) (v u : Int32) : Int32 := if isT S v && isS u then nI (hw S (iN v) (iN u)) else -11
noncomputable def qMaidOf (S : AS) (v w : Int32) : Int32 := if isT S v then mOf S (iN v) w else -11
def qHeldBy (S : AS) (v p : Int32) : Int32 := if isT S v then pickF (lockF S (iN v)) (cn (lockF S (iN v))) p 8 0 else -11
def qShelfOf (S : AS) (u w : Int32) : Int32 := if isS u then sOf S (iN u) w else -11
def qHolder (S : AS) (u p : Int32) : Int32 := if isS u then pickF (heldF S (iN u)) (cn (heldF S (iN u))) p (nC S) 0 else -11
def waiterN (S : AS) (s p : Nat) : Nat := match (qu S s)[p]? with
  | none => 0
  | some w => w.1
def qWaiter (S : AS) (u p : Int32) : Int32 := if isS u && (decide (0 ≤ p) && decide (p < nI (qu S (iN u)).length)) then nI (waiterN S (iN u) (iN p)) else -11
noncomputable def qRing (S : AS) (v u : Int32) (b : Bool) : Int32 := if isT S v && isS u then
    (if (bar S (iN v) (iN u) (if b then 2 else 1)).isSome || atOnce S (iN v) (iN u) (if b then 2 else 1) then 0 else bI (rB (waitW S (iN u) (iN v, (if b then 2 else 1), hw S (iN v) (iN u) == 1)) (iN v) (iN v)))
  else -11
noncomputable def qWould (S : AS) (v u : Int32) (b : Bool) : Int32 := if isT S v && isS u then
    (if (bar S (iN v) (iN u) (if b then 2 else 1)).isSome then -14 else nI (wA S (iN v) (iN u) (if b then 2 else 1)).2)
  else -11
/-- the longest way from a maid -/
def chN : Nat → AS → Nat → Nat
  | 0, _, _ => 0
  | f + 1, S, m => mx (fun o => if edge S m o then chN f S o else 0) (nC S) + 1
def qChain (S : AS) (v : Int32) : Int32 := if isT S v then nI (chN 25 S (iN v)) else -11
noncomputable def qWaited (S : AS) (v : Int32) : Int32 := if isT S v then encB (fun o => decide (o < nC S) && rB S o (iN v)) else -11
def isNd (S : AS) (a b : Nat) : Bool := decide ((qu S b).length < (qu S a).length) || ((qu S a).length == (qu S b).length && (decide (cn (heldF S b) (nC S) < cn (heldF S a) (nC S)) || (cn (heldF S a) (nC S) == cn (heldF S b) (nC S) && decide (a < b))))
def qNeeded (S : AS) (p : Int32) : Int32 := pickF (fun _ => true) (fun k => cn (fun o => isNd S o k) 8) p 8 0
def isAh (S : AS) (a b : Nat) : Bool := decide (cn (lockF S b) 8 < cn (lockF S a) 8) || (cn (lockF S a) 8 == cn (lockF S b) 8 && (if (aAt S a).isNone = (aAt S b).isNone then decide (b < a) else (aAt S a).isNone))
def qRanked (S : AS) (p : Int32) : Int32 := pickF (tH S) (fun k => cn (fun o => tH S o && isAh S o k) (nC S)) p (nC S) 0
def lkN (S : AS) (t : Nat) : Nat := sm (fun m => cn (fun s => decide (t ≤ hw S m s)) 8) 24
def bareN (S : AS) : Nat := cn (fun s => cn (heldF S s) (nC S) == 0) 8
def qAcc (S : AS) (tl pl : Nat) (w : Int32) : Int32 :=
  if w = nI 0 then nI (nC S - nE S) else if w = nI 1 then nI (nC S) else if w = nI 2 then nI (nW S) else if w = nI 3 then nI (lkN S 1) else if w = nI 4 then nI (lkN S 2) else if w = nI 5 then nI (sm (gN S) 8) else if w = nI 6 then nI (sm (wT S) 24) else if w = nI 7 then nI (sm (lG S) 24) else if w = nI 8 then nI (nE S) else if w = nI 9 then nI (bareN S) else if w = nI 10 then nI tl else if w = nI 11 then nI pl else -12
def badS (S : AS) (s : Nat) : Bool := (mx (fun o => hw S o s) (nC S) == 2 && decide (1 < cn (heldF S s) (nC S))) || (match qu S s with
  | [] => false
  | w :: _ => canB S s w.1 w.2.1)
noncomputable def qBal (S : AS) : Int32 := bI ((cn (badS S) 8 == 0) && (young S).isNone)
noncomputable def qMean (S : AS) : UInt64 := if nC S - nE S = 0 then FP.dconst0 else FP.ddiv (FP.i2d (nI (lkN S 1))) (FP.i2d (nI (nC S - nE S)))
noncomputable def qShare (S : AS) : UInt32 := if nC S - nE S = 0 then FP.fconst0 else FP.fdiv (FP.i2f (nI (nW S))) (FP.i2f (nI (nC S - nE S)))
theorem sw_out {w : Int32} {n : Nat} (hn : n < 1000) (h : ∀ j, j < n → w ≠ nI j) : w.toInt < 0 ∨ (n : Int) - 1 < w.toInt := by
  rcases Int.lt_or_le w.toInt 0 with h0 | h0
  · exact Or.inl h0
  · refine Or.inr (Int.lt_of_not_ge fun h1 => ?_)
    refine h w.toInt.toNat (by omega) (Int32.toInt_inj.mp ?_)
    rw [nI_toInt (by omega)]
    omega
theorem le0 {a : Nat} (ha : a < 2 ^ 31) (h : nI a ≤ 0) : a = 0 := by
  have := nLe (a := a) (b := 0) ha (by decide) (by rw [nI_0]; exact h)
  omega
theorem nle0 {a : Nat} (ha : a < 2 ^ 31) (h : ¬ nI a ≤ 0) : a ≠ 0 := by
  have := nNle (a := a) (b := 0) ha (by decide) (by rw [nI_0]; exact h)
  omega
