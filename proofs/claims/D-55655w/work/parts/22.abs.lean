set_option maxRecDepth 100000
def bt (x : Int32) (i : Nat) : Bool := x.toBitVec.getLsbD i
theorem b_ext {x y : Int32} (h : ∀ i, i < 32 → bt x i = bt y i) : x = y := Int32.toBitVec_inj.mp (BitVec.eq_of_getLsbD_eq (fun i hi => h i hi))
theorem b_or (x y : Int32) (i : Nat) : bt (x ||| y) i = (bt x i || bt y i) := by unfold bt; rw [Int32.toBitVec_or, BitVec.getLsbD_or]
theorem b_and (x y : Int32) (i : Nat) : bt (x &&& y) i = (bt x i && bt y i) := by unfold bt; rw [Int32.toBitVec_and, BitVec.getLsbD_and]
theorem b_xor (x y : Int32) (i : Nat) : bt (x ^^^ y) i = (bt x i ^^ bt y i) := by unfold bt; rw [Int32.toBitVec_xor, BitVec.getLsbD_xor]
theorem b_big {x : Int32} {i : Nat} (h : 32 ≤ i) : bt x i = false := BitVec.getLsbD_of_ge _ _ h
theorem b_255 (i : Nat) : bt 255 i = decide (i < 8) := by
  rcases Nat.lt_or_ge i 32 with h | h
  · exact (by decide +kernel : ∀ i, i < 32 → bt 255 i = decide (i < 8)) i h
  · rw [b_big h, decide_eq_false (by omega)]
theorem b_65535 (i : Nat) : bt 65535 i = decide (i < 16) := by
  rcases Nat.lt_or_ge i 32 with h | h
  · exact (by decide +kernel : ∀ i, i < 32 → bt 65535 i = decide (i < 16)) i h
  · rw [b_big h, decide_eq_false (by omega)]
theorem b_m1 : ∀ i, i < 32 → bt (-1) i = true := by decide +kernel
theorem b_0 (i : Nat) : bt 0 i = false := BitVec.getLsbD_zero
theorem s_l : ∀ n, n < 32 → ((nI n &&& 31).toBitVec.smod 32).toNat = n := by decide +kernel
theorem s_u : ∀ n, n < 32 → (((nI n).toUInt32 &&& Int32.toUInt32 31).toBitVec % 32).toNat = n := by decide +kernel
theorem b_shl (n : Nat) (hn : n < 32) (x : Int32) {i : Nat} (hi : i < 32) : bt (x <<< (nI n &&& 31)) i = (decide (n ≤ i) && bt x (i - n)) := by
  unfold bt
  rw [Int32.toBitVec_shiftLeft]
  show (x.toBitVec <<< ((nI n &&& 31).toBitVec.smod 32).toNat).getLsbD i = _
  rw [s_l n hn, BitVec.getLsbD_shiftLeft]
  rcases Nat.lt_or_ge i n with h | h
  · simp [h, Nat.not_le.mpr h]
  · simp [hi, h, Nat.not_lt.mpr h]
theorem b_ushr (n : Nat) (hn : n < 32) (x : Int32) (i : Nat) : bt ((x.toUInt32 >>> ((nI n).toUInt32 &&& Int32.toUInt32 31)).toInt32) i = bt x (n + i) := by
  show (x.toUInt32 >>> ((nI n).toUInt32 &&& Int32.toUInt32 31)).toBitVec.getLsbD i = x.toUInt32.toBitVec.getLsbD (n + i)
  rw [UInt32.toBitVec_shiftRight]
  show (x.toUInt32.toBitVec >>> (((nI n).toUInt32 &&& Int32.toUInt32 31).toBitVec % 32).toNat).getLsbD i = _
  rw [s_u n hn, BitVec.getLsbD_ushiftRight]
theorem b_sshr (n : Nat) (hn : n < 32) (x : Int32) {i : Nat} (hi : i < 32) : bt (x >>> (nI n &&& 31)) i = if n + i < 32 then bt x (n + i) else bt x 31 := by
  unfold bt
  rw [Int32.toBitVec_shiftRight]
  show (x.toBitVec.sshiftRight ((nI n &&& 31).toBitVec.smod 32).toNat).getLsbD i = _
  rw [s_l n hn, BitVec.getLsbD_sshiftRight, BitVec.msb_eq_getLsbD_last]
  simp [hi]
theorem b_shl8 (x : Int32) {i : Nat} (hi : i < 32) : bt (x <<< ((8 : Int32) &&& 31)) i = (decide (8 ≤ i) && bt x (i - 8)) := b_shl 8 (by omega) x hi
theorem b_shl16 (x : Int32) {i : Nat} (hi : i < 32) : bt (x <<< ((16 : Int32) &&& 31)) i = (decide (16 ≤ i) && bt x (i - 16)) := b_shl 16 (by omega) x hi
theorem b_shl24 (x : Int32) {i : Nat} (hi : i < 32) : bt (x <<< ((24 : Int32) &&& 31)) i = (decide (24 ≤ i) && bt x (i - 24)) := b_shl 24 (by omega) x hi
-- ===== what both sides keep, as plain values =====
abbrev Wi : Type := Nat × Nat × Bool
abbrev AS : Type := (Nat × Nat) × (Nat → Bool) × (Nat → Nat → Nat) × (Nat → List Wi) × (Nat → Nat) × (Nat → Nat) × (Nat → Nat) × (Nat → Nat) × (Nat → Nat)
abbrev nC (S : AS) : Nat := S.1.1
abbrev nE (S : AS) : Nat := S.1.2
abbrev tH (S : AS) : Nat → Bool := S.2.1
abbrev hw (S : AS) : Nat → Nat → Nat := S.2.2.1
abbrev qu (S : AS) : Nat → List Wi := S.2.2.2.1
abbrev lG (S : AS) : Nat → Nat := S.2.2.2.2.1
abbrev wT (S : AS) : Nat → Nat := S.2.2.2.2.2.1
abbrev gT (S : AS) : Nat → Nat := S.2.2.2.2.2.2.1
abbrev gN (S : AS) : Nat → Nat := S.2.2.2.2.2.2.2.1
abbrev lQ (S : AS) : Nat → Nat := S.2.2.2.2.2.2.2.2
def fset {α : Type} (f : Nat → α) (i : Nat) (v : α) : Nat → α := fun j => if j = i then v else f j
theorem fset_s {α : Type} {f : Nat → α} {i : Nat} {v : α} : fset f i v i = v := by simp [fset]
theorem fset_n {α : Type} {f : Nat → α} {i j : Nat} {v : α} (h : j ≠ i) : fset f i v j = f j := by simp [fset, h]
def sHw (S : AS) (f : Nat → Nat → Nat) : AS := (S.1, S.2.1, f, S.2.2.2)
def sQu (S : AS) (f : Nat → List Wi) : AS := (S.1, S.2.1, S.2.2.1, f, S.2.2.2.2)
def sLG (S : AS) (f : Nat → Nat) : AS := (S.1, S.2.1, S.2.2.1, S.2.2.2.1, f, S.2.2.2.2.2)
def sWT (S : AS) (f : Nat → Nat) : AS := (S.1, S.2.1, S.2.2.1, S.2.2.2.1, S.2.2.2.2.1, f, S.2.2.2.2.2.2)
def sGT (S : AS) (f : Nat → Nat) : AS := (S.1, S.2.1, S.2.2.1, S.2.2.2.1, S.2.2.2.2.1, S.2.2.2.2.2.1, f, S.2.2.2.2.2.2.2)
def sGN (S : AS) (f : Nat → Nat) : AS := (S.1, S.2.1, S.2.2.1, S.2.2.2.1, S.2.2.2.2.1, S.2.2.2.2.2.1, S.2.2.2.2.2.2.1, f, S.2.2.2.2.2.2.2.2)
def sLN (S : AS) (f : Nat → Nat) : AS := (S.1, S.2.1, S.2.2.1, S.2.2.2.1, S.2.2.2.2.1, S.2.2.2.2.2.1, S.2.2.2.2.2.2.1, S.2.2.2.2.2.2.2.1, f)
def sTH (S : AS) (f : Nat → Bool) : AS := (S.1, f, S.2.2)
def sNC (S : AS) (n : Nat) : AS := ((n, S.1.2), S.2)
def sNE (S : AS) (n : Nat) : AS := ((S.1.1, n), S.2)
def mx (f : Nat → Nat) : Nat → Nat
  | 0 => 0
  | n + 1 => Nat.max (mx f n) (f n)
def sm (f : Nat → Nat) : Nat → Nat
  | 0 => 0
  | n + 1 => sm f n + f n
def cn (f : Nat → Bool) : Nat → Nat
  | 0 => 0
  | n + 1 => cn f n + (if f n then 1 else 0)
theorem mx_le {f : Nat → Nat} {n c : Nat} : mx f n ≤ c ↔ ∀ o, o < n → f o ≤ c := by
  induction n with
  | zero => simp [mx]
  | succ n ih =>
    show Nat.max (mx f n) (f n) ≤ c ↔ _
    have hm : Nat.max (mx f n) (f n) ≤ c ↔ mx f n ≤ c ∧ f n ≤ c := Nat.max_le
    rw [hm, ih]
    constructor
    · intro h o ho
      rcases Nat.lt_or_ge o n with q | q
      · exact h.1 o q
      · rw [show o = n by omega]; exact h.2
    · intro h
      exact ⟨fun o ho => h o (by omega), h n (by omega)⟩
/-- how the others hold a shelf -/
def oth (S : AS) (s m : Nat) : Nat := mx (fun o => if o = m then 0 else hw S o s) (nC S)
def canB (S : AS) (s m k : Nat) : Bool := oth S s m == 0 || (k == 1 && oth S s m == 1)
def giveW (S : AS) (s : Nat) (w : Wi) : AS := sGN (sGT (sHw S (fset (hw S) w.1 (fset (hw S w.1) s w.2.1))) (fset (gT S) w.1 (gT S w.1 + 1))) (fset (gN S) s (gN S s + 1))
def sRow (S : AS) (s : Nat) (l : List Wi) : AS := sQu S (fset (qu S) s l)
def serveL (s : Nat) : List Wi → AS → AS × Nat
  | [], S => (sRow S s [], 0)
  | w :: ws, S => if canB S s w.1 w.2.1 then ((serveL s ws (giveW (sRow S s ws) s w)).1, (serveL s ws (giveW (sRow S s ws) s w)).2 + 1) else (sRow S s (w :: ws), 0)
def serve (S : AS) (s : Nat) : AS × Nat := serveL s (qu S s) S
def inRow (m : Nat) (l : List Wi) : Bool := l.any (fun w => w.1 == m)
def rmW (m : Nat) (l : List Wi) : List Wi := l.filter (fun w => !(w.1 == m))
def aAtN (S : AS) (m : Nat) : Nat → Option Nat
  | 0 => none
  | n + 1 => match aAtN S m n with
    | some s => some s
    | none => if inRow m (qu S n) then some n else none
/-- the shelf for which a maid waits -/
def aAt (S : AS) (m : Nat) : Option Nat := aAtN S m 8
def wishIn (m : Nat) (l : List Wi) : Option Wi := l.find? (fun w => w.1 == m)
def aWish (S : AS) (m : Nat) : Option Wi := match aAt S m with
  | none => none
  | some s => wishIn m (qu S s)
def kindOf (S : AS) (m : Nat) : Nat := match aWish S m with
  | none => 0
  | some w => w.2.1
def noMore (S : AS) (m : Nat) : AS := match aAt S m with
  | none => S
  | some s => sRow S s (rmW m (qu S s))
def clearHw (S : AS) (m : Nat) : AS := sHw S (fset (hw S) m (fun s => if s < 8 then 0 else hw S m s))
def serveUp (hd : Nat → Bool) (r : AS × Nat) : Nat → AS × Nat
  | 0 => r
  | k + 1 => if hd k then ((serve (serveUp hd r k).1 k).1, (serveUp hd r k).2 + (serve (serveUp hd r k).1 k).2) else serveUp hd r k
def letAll (S : AS) (m : Nat) : AS × Nat := serveUp (fun k => !(hw (noMore S m) m k == 0)) (match aAt S m with
  | none => (clearHw (noMore S m) m, 0)
  | some s => serve (clearHw (noMore S m) m) s) 8
/-- the maids ahead of m in a row -/
def aheadL (m : Nat) : List Wi → List Nat
  | [] => []
  | w :: ws => if w.1 = m then [] else w.1 :: aheadL m ws
def edge (S : AS) (m o : Nat) : Bool := match aAt S m with
  | none => false
  | some s => (decide (o < nC S) && !(o == m) && (hw S o s == 2 || (hw S o s == 1 && kindOf S m == 2))) || (aheadL m (qu S s)).contains o
def reach (S : AS) (m o : Nat) : Prop := Relation.TransGen (fun a b => edge S a b = true) m o
noncomputable def rB (S : AS) (m o : Nat) : Bool := @decide (reach S m o) (Classical.propDecidable _)
theorem rB_iff {S : AS} {m o : Nat} : rB S m o = true ↔ reach S m o := by unfold rB; exact @decide_eq_true_iff _ (Classical.propDecidable _)
noncomputable def yg (S : AS) : Nat → Option Nat
  | 0 => none
  | n + 1 => if rB S n n then some n else yg S n
noncomputable def young (S : AS) : Option Nat := yg S (nC S)
def nW (S : AS) : Nat := sm (fun s => (qu S s).length) 8
def incL (S : AS) (m : Nat) : AS := sLG S (fset (lG S) m (lG S m + 1))
noncomputable def brk : Nat → AS → AS
  | 0, S => S
  | f + 1, S => match young S with
    | none => S
    | some m => brk f (letAll (incL S m) m).1
def cnts (S : AS) : AS := sLN S (fun s => if s < 8 then Nat.max (lQ S s) (qu S s).length else lQ S s)
def insW (w : Wi) (l : List Wi) : List Wi := if w.2.2 then l.takeWhile (fun x => x.2.2) ++ w :: l.dropWhile (fun x => x.2.2) else l ++ [w]
def waitW (S : AS) (s : Nat) (w : Wi) : AS := sWT (sRow S s (insW w (qu S s))) (fset (wT S) w.1 (wT S w.1 + 1))
abbrev AR : Type := (Nat × Nat) ⊕ (AS × Nat)
def bar (S : AS) (m s k : Nat) : Option (Nat × Nat) := match aAt S m with
  | some z => some (2, z)
  | none => if hw S m s = 2 ∨ hw S m s = k then some (3, hw S m s) else none
def atOnce (S : AS) (m s k : Nat) : Bool := (hw S m s == 1 || (qu S s).isEmpty) && canB S s m k
noncomputable def opWait (S : AS) (m s k : Nat) : AS × Nat :=
  (cnts (brk (nW (waitW S s (m, k, hw S m s == 1))) (waitW S s (m, k, hw S m s == 1))),
   if hw (brk (nW (waitW S s (m, k, hw S m s == 1))) (waitW S s (m, k, hw S m s == 1))) m s = k then 2 else if (aAt (brk (nW (waitW S s (m, k, hw S m s == 1))) (waitW S s (m, k, hw S m s == 1))) m).isSome then 1 else 0)
noncomputable def opWant (S : AS) (m s k : Nat) : AR := match bar S m s k with
  | some r => .inl r
  | none => if atOnce S m s k then .inr (giveW S s (m, k, hw S m s == 1), 2) else .inr (opWait S m s k)
def opFree (S : AS) (m s : Nat) : AR := if hw S m s = 0 then .inl (4, s) else
  .inr (serve (sHw (if aAt S m = some s then noMore S m else S) (fset (hw S) m (fset (hw S m) s 0))) s)
def opEnd (S : AS) (m : Nat) : AS × Nat := (sNE (sTH (letAll S m).1 (fset (tH S) m false)) (nE S + 1), (letAll S m).2)
def opMaid (S : AS) : AR := if nC S = 24 then .inl (1, 24) else if nC S - nE S = 8 then .inl (1, 8) else .inr (sNC (sTH S (fset (tH S) (nC S) true)) (nC S + 1), nC S)
def AS0 : AS := ((0, 0), fun _ => false, fun _ _ => 0, fun _ => [], fun _ => 0, fun _ => 0, fun _ => 0, fun _ => 0, fun _ => 0)
-- ===== what always holds =====
def IV (S : AS) : Prop :=
  nC S ≤ 24 ∧ (∀ m, tH S m = true → m < nC S) ∧ (∀ m s, hw S m s ≤ 2) ∧ (∀ m s, hw S m s ≠ 0 → tH S m = true) ∧
  (∀ s, s < 8 → ∀ w ∈ qu S s, tH S w.1 = true ∧ (w.2.1 = 1 ∨ w.2.1 = 2) ∧ hw S w.1 s < w.2.1 ∧ w.2.2 = (hw S w.1 s == 1)) ∧
  (∀ s, s < 8 → ((qu S s).map (fun w => w.1)).Nodup) ∧
  (∀ s s', s < 8 → s' < 8 → ∀ w ∈ qu S s, ∀ w' ∈ qu S s', w.1 = w'.1 → s = s') ∧
  (∀ s, s < 8 → (qu S s).Pairwise (fun a b => b.2.2 = true → a.2.2 = true)) ∧
  cn (tH S) 24 + nE S = nC S ∧ cn (tH S) 24 ≤ 8
-- ===== sets of maids in an int =====
def BS (z : Int32) (f : Nat → Bool) : Prop := ∀ i, i < 32 → bt z i = (decide (i < 24) && f i)
theorem BS.eq {z w : Int32} {f g : Nat → Bool} (h1 : BS z f) (h2 : BS w g) (h : ∀ i, i < 24 → f i = g i) : z = w := b_ext fun i hi => by
  rw [h1 i hi, h2 i hi]
  rcases Nat.lt_or_ge i 24 with q | q
  · rw [h i q]
  · rw [decide_eq_false (by omega)]; rfl
theorem BS.zero : BS 0 (fun _ => false) := fun i _ => by rw [b_0]; simp
theorem bt_1 {i : Nat} (hi : i < 32) : bt 1 i = decide (i = 0) := (by decide +kernel : ∀ i, i < 32 → bt 1 i = decide (i = 0)) i hi
theorem BS.one {o : Nat} (ho : o < 24) : BS ((1 : Int32) <<< (nI o &&& 31)) (fun i => i == o) := fun i hi => by
  rw [b_shl o (by omega) _ hi]
  rcases Nat.lt_or_ge i o with q | q
  · simp [Nat.not_le.mpr q, Nat.ne_of_lt q]
  · rw [bt_1 (by omega)]
    by_cases e : i = o
    · subst e; simp; omega
    · have : i - o ≠ 0 := by omega
      simp [q, e, this]
theorem BS.or {z w : Int32} {f g : Nat → Bool} (h1 : BS z f) (h2 : BS w g) : BS (z ||| w) (fun i => f i || g i) := fun i hi => by
  rw [b_or, h1 i hi, h2 i hi]
  cases decide (i < 24) <;> simp
theorem BS.to {z : Int32} {f g : Nat → Bool} (h1 : BS z f) (h : ∀ i, i < 24 → f i = g i) : BS z g := fun i hi => by
  rw [h1 i hi]
  rcases Nat.lt_or_ge i 24 with q | q
  · rw [h i q]
  · rw [decide_eq_false (by omega)]; rfl
theorem bt_and1 (x : Int32) : x &&& 1 = if bt x 0 then 1 else 0 := b_ext fun i hi => by
  rw [b_and, bt_1 hi]
  by_cases e : i = 0
  · subst e
    cases bt x 0 <;> simp [b_0, bt_1]
  · cases h : bt x 0 <;> simp [e, b_0, bt_1 hi]
/-- (z >> o) & 1 -/
theorem BS.bit {z : Int32} {f : Nat → Bool} (h : BS z f) {o : Nat} (ho : o < 24) : (z >>> (nI o &&& 31)) &&& 1 = if f o then 1 else 0 := by
  have h1 : o + 0 < 32 := by omega
  rw [bt_and1, b_sshr o (by omega) _ (by omega), if_pos h1, h (o + 0) h1]
  simp [ho]
noncomputable def encB (f : Nat → Bool) : Int32 := (List.range 24).foldl (fun z i => if f i then z ||| ((1 : Int32) <<< (nI i &&& 31)) else z) 0
theorem encB_BS (f : Nat → Bool) : BS (encB f) f := by
  have key : ∀ n, n ≤ 24 → BS ((List.range n).foldl (fun z i => if f i then z ||| ((1 : Int32) <<< (nI i &&& 31)) else z) 0) (fun i => decide (i < n) && f i) := by
    intro n
    induction n with
    | zero => intro _; exact BS.zero.to (fun i _ => by simp)
    | succ n ih =>
      intro hn
      rw [List.range_succ, List.foldl_append]
      have h1 := ih (by omega)
      simp only [List.foldl_cons, List.foldl_nil]
      by_cases hf : f n = true
      · rw [if_pos hf]
        refine (h1.or (BS.one (show n < 24 by omega))).to (fun i _ => ?_)
        by_cases e : i = n
        · subst e; simp [hf]
        · have : (decide (i < n + 1)) = decide (i < n) := by
            by_cases q : i < n
            · simp [q]; omega
            · simp [q]; omega
          simp [e, this]
      · rw [if_neg hf]
        refine h1.to (fun i _ => ?_)
        by_cases e : i = n
        · subst e; simp [hf]
        · have : (decide (i < n + 1)) = decide (i < n) := by
            by_cases q : i < n
            · simp [q]; omega
            · simp [q]; omega
          simp [this]
  exact (key 24 (Nat.le_refl _)).to (fun i hi => by simp [hi])
theorem BS.enc {z : Int32} {f : Nat → Bool} (h : BS z f) : z = encB f := h.eq (encB_BS f) (fun _ _ => rfl)
