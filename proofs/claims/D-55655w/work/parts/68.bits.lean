set_option maxRecDepth 100000
-- ===== lowest bit, number of bits =====
/-- the set's number -/
abbrev bN (z : Int32) : Nat := z.toBitVec.toNat
theorem bt_nat (z : Int32) (i : Nat) : bt z i = (bN z).testBit i := by unfold bt; exact (BitVec.testBit_toNat _).symm
theorem low_split {Z k : Nat} (hk : Z.testBit k = true) (hl : ∀ j, j < k → Z.testBit j = false) : ∃ y, Z = 2 ^ (k + 1) * y + 2 ^ k := by
  refine ⟨Z / 2 ^ (k + 1), ?_⟩
  have hm : Z % 2 ^ (k + 1) = 2 ^ k := by
    apply Nat.eq_of_testBit_eq
    intro i
    rw [Nat.testBit_mod_two_pow, Nat.testBit_two_pow]
    by_cases h : i < k + 1
    · rw [decide_eq_true h, Bool.true_and]
      by_cases e : k = i
      · subst e; rw [hk]; simp
      · rw [hl i (by omega)]; simp [e]
    · rw [decide_eq_false h]
      have : ¬ k = i := by omega
      simp [this]
  have := Nat.div_add_mod Z (2 ^ (k + 1))
  omega
theorem pred_bit {Z k : Nat} (hk : Z.testBit k = true) (hl : ∀ j, j < k → Z.testBit j = false) (i : Nat) : (Z - 1).testBit i = if i < k then true else if i = k then false else Z.testBit i := by
  obtain ⟨y, hy⟩ := low_split hk hl
  have hp : 0 < 2 ^ k := Nat.two_pow_pos k
  have h1 : Z - 1 = 2 ^ (k + 1) * y + (2 ^ k - 1) := by omega
  have hb1 : 2 ^ k - 1 < 2 ^ (k + 1) := by rw [Nat.pow_succ]; omega
  have hb2 : 2 ^ k < 2 ^ (k + 1) := by rw [Nat.pow_succ]; omega
  rw [h1, Nat.testBit_two_pow_mul_add _ hb1]
  by_cases h : i < k
  · rw [if_pos (by omega), if_pos h, Nat.testBit_two_pow_sub_one]; simp [h]
  · rw [if_neg h]
    by_cases e : i = k
    · rw [if_pos (by omega), if_pos e, Nat.testBit_two_pow_sub_one]; simp [h]
    · rw [if_neg (by omega), if_neg e, hy, Nat.testBit_two_pow_mul_add _ hb2, if_neg (by omega)]
theorem bN_pred {z : Int32} (h : 0 < bN z) : bN (z - nI 1) = bN z - 1 := by
  show (z - nI 1).toBitVec.toNat = _
  rw [Int32.toBitVec_sub]
  have e : (nI 1).toBitVec = 1#32 := rfl
  rw [e, BitVec.toNat_sub_of_le]
  · rfl
  · show (1#32).toNat ≤ _
    exact h
theorem bt_pred {z : Int32} {k : Nat} (hk : bt z k = true) (hl : ∀ j, j < k → bt z j = false) (i : Nat) : bt (z - nI 1) i = if i < k then true else if i = k then false else bt z i := by
  have hk' : (bN z).testBit k = true := by rw [← bt_nat]; exact hk
  have hl' : ∀ j, j < k → (bN z).testBit j = false := fun j hj => by rw [← bt_nat]; exact hl j hj
  have hpos : 0 < bN z := by
    rcases Nat.eq_zero_or_pos (bN z) with h | h
    · rw [h] at hk'; simp at hk'
    · exact h
  rw [bt_nat, bN_pred hpos, pred_bit hk' hl', bt_nat]
/-- the lowest member is taken out -/
theorem BS.next {z : Int32} {f : Nat → Bool} {k : Nat} (hz : BS z f) (hk : k < 24) (hf : f k = true) (hl : ∀ j, j < k → f j = false) : BS (z &&& (z - nI 1)) (fun i => f i && !(i == k)) := fun i hi => by
  have h1 : bt z k = true := by rw [hz k (by omega), decide_eq_true hk, hf]; rfl
  have h2 : ∀ j, j < k → bt z j = false := fun j hj => by rw [hz j (by omega), hl j hj]; simp
  rw [b_and, bt_pred h1 h2, hz i hi]
  show _ = (decide (i < 24) && (f i && !(i == k)))
  by_cases h : i < k
  · rw [if_pos h, hl i h]; simp
  · rw [if_neg h]
    by_cases e : i = k
    · subst e; simp
    · have e2 : (i == k) = false := by simp [e]
      rw [if_neg e, e2]; simp
theorem ntz_mask {z : Int32} {f : Nat → Bool} {k : Nat} (hz : BS z f) (hk : k < 24) (hf : f k = true) (hl : ∀ j, j < k → f j = false) : (z ^^^ (-1)) &&& (z - nI 1) = nI (2 ^ k - 1) := b_ext fun i hi => by
  have h1 : bt z k = true := by rw [hz k (by omega), decide_eq_true hk, hf]; rfl
  have h2 : ∀ j, j < k → bt z j = false := fun j hj => by rw [hz j (by omega), hl j hj]; simp
  have hr : bt (nI (2 ^ k - 1)) i = decide (i < k) := (by decide +kernel : ∀ k, k < 24 → ∀ i, i < 32 → bt (nI (2 ^ k - 1)) i = decide (i < k)) k hk i hi
  rw [b_and, b_xor, b_m1 i hi, bt_pred h1 h2, hr]
  by_cases h : i < k
  · rw [if_pos h, h2 i h, decide_eq_true h]; rfl
  · rw [if_neg h, decide_eq_false h]
    by_cases e : i = k
    · rw [if_pos e]; simp
    · rw [if_neg e]; cases bt z i <;> rfl
theorem BS.zero_iff {z : Int32} {f : Nat → Bool} (hz : BS z f) : z = 0 ↔ ∀ i, i < 24 → f i = false := by
  constructor
  · intro h i hi
    have := hz i (by omega)
    rw [h, b_0, decide_eq_true hi, Bool.true_and] at this
    exact this.symm
  · intro h
    exact hz.eq BS.zero (fun i hi => h i hi)
