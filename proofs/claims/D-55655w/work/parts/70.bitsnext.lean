set_option maxRecDepth 100000
set_option maxHeartbeats 4000000 in
set_option maxRecDepth 100000 in
theorem con_X6_next_2 {l : Launch} {G : YG} {σ : AH} {a k : Nat} {z : Int32} {f : Nat → Bool} (ha : σ a = some (.inr (6, [.int z]))) (hz : BS z f) (hk : k < 24) (hf : f k = true) (hl : ∀ j, j < k → f j = false) : Con l yX6_next_2 cX6_next_2 2 (some (FieldType.object "java/lang/Integer")) G 1 0 0 [.ref a] σ (PA fun u τ => u = bx G k ∧ τ a = some (.inr (6, [.int (z &&& (z - nI 1))])) ∧ ∀ q, q ≠ a → τ q = σ q) := by
  refine con_of (by decide) (Nat.le_of_ble_eq_true rfl) ?_
  refine x_locs (L' := [(0, .ref a)]) [0] rfl ?_
  refine x_aload_n dX6_next_2_0 0 rfl rfl ?_
  refine x_get dX6_next_2_1 vC_6 in_X6 ha 0 (by decide) q1163 rfl ?_
  refine x_callS dX6_next_2_4 (con_J20_numberOfTrailingZeros hz hk hf hl) (lw_S q567 q568 q110 q569) (np := 1) (by decide +kernel) rfl ⟨Nat.le_of_ble_eq_true rfl, Nat.le_of_ble_eq_true rfl⟩ (Nat.le_of_ble_eq_true rfl) rfl (by decide) (by decide) (rS ?_) nI'
  refine x_istore_n (i := 1) (L' := [(1, .int (nI k)), (0, .ref a)]) dX6_next_2_7 rfl (by decide) rfl ?_
  refine x_aload_n dX6_next_2_8 1 rfl rfl ?_
  refine x_dup dX6_next_2_9 rfl ?_
  refine x_get dX6_next_2_10 vC_6 in_X6 ha 0 (by decide) q1163 rfl ?_
  refine x_aload_n dX6_next_2_13 1 rfl rfl ?_
  refine x_get dX6_next_2_14 vC_6 in_X6 ha 0 (by decide) q1163 rfl ?_
  refine x_iconst (v := nI 1) dX6_next_2_17 (by decide) ?_
  refine x_isub dX6_next_2_18 ?_
  refine x_iand dX6_next_2_19 ?_
  refine x_put (fs' := [.int (z &&& (z - (nI 1)))]) dX6_next_2_20 vC_6 in_X6 tyX6_ok nmX6 ha 0 (by decide) q1163 rfl rfl (rfl) (rfl) (Nat.le_of_ble_eq_true rfl) rfl (fun σ2 hc4 hu3 => ?_)
  refine x_iload_n dX6_next_2_23 0 rfl rfl ?_
  refine x_callS dX6_next_2_24 (con_J20_valueOf (n := k) (by omega)) (lw_S q571 q572 q110 q573) (np := 1) (by decide +kernel) rfl ⟨Nat.le_of_ble_eq_true rfl, Nat.le_of_ble_eq_true rfl⟩ (Nat.le_of_ble_eq_true rfl) rfl (by decide) (by decide) (rA fun u σ5 h1 => ?_) nA'
  obtain ⟨rfl, rfl⟩ := h1
  exact x_aret dX6_next_2_27 rfl (by first | exact Or.inl ⟨_, rfl⟩ | exact Or.inr ⟨_, rfl⟩) (Or.inr ⟨_, rfl⟩) (⟨_, rfl, rfl, hc4, hu3⟩)
set_option maxHeartbeats 4000000 in
set_option maxRecDepth 100000 in
theorem con_X6_next {l : Launch} {G : YG} {σ : AH} {a k : Nat} {z : Int32} {f : Nat → Bool} (ha : σ a = some (.inr (6, [.int z]))) (hz : BS z f) (hk : k < 24) (hf : f k = true) (hl : ∀ j, j < k → f j = false) : Con l yX6_next cX6_next 1 (some (FieldType.object "java/lang/Object")) G 2 0 0 [.ref a] σ (PA fun u τ => u = bx G k ∧ τ a = some (.inr (6, [.int (z &&& (z - nI 1))])) ∧ ∀ q, q ≠ a → τ q = σ q) := by
  refine con_of (by decide) (Nat.le_of_ble_eq_true rfl) ?_
  refine x_locs (L' := [(0, .ref a)]) [0] rfl ?_
  refine x_aload_n dX6_next_0 0 rfl rfl ?_
  refine x_callV dX6_next_1 (con_X6_next_2 ha hz hk hf hl) (lw_V q563 q564 q565 q121 q566) (np := 0) (by decide +kernel) rfl (rcv_of vC_6 ha) ⟨Nat.le_of_ble_eq_true rfl, Nat.le_of_ble_eq_true rfl⟩ (Nat.le_of_ble_eq_true rfl) rfl (by decide) (by decide) (rA fun u σ1 h1 => ?_) nA'
  exact x_aret dX6_next_4 rfl (by first | exact Or.inl ⟨_, rfl⟩ | exact Or.inr ⟨_, rfl⟩) (Or.inr ⟨_, rfl⟩) (⟨_, rfl, h1⟩)
theorem nI_and {a b : Nat} : nI a &&& nI b = nI (a &&& b) := by
  apply Int32.toBitVec_inj.mp
  rw [Int32.toBitVec_and]
  show BitVec.ofInt 32 a &&& BitVec.ofInt 32 b = BitVec.ofInt 32 ((a &&& b : Nat) : Int)
  rw [BitVec.ofInt_natCast, BitVec.ofInt_natCast, BitVec.ofInt_natCast]
  apply BitVec.eq_of_getLsbD_eq
  intro i hi
  simp [BitVec.getLsbD_ofNat, Nat.testBit_and, hi]
theorem and_lane {a b m n : Nat} (ha : a < 256) (hm : m < 256) : (a + 256 * b) &&& (m + 256 * n) = (a &&& m) + 256 * (b &&& n) := by
  have hab : a &&& m < 256 := Nat.and_lt_two_pow (n := 8) a hm
  apply Nat.eq_of_testBit_eq
  intro i
  rw [Nat.testBit_and, Nat.add_comm a, Nat.add_comm m, Nat.add_comm (a &&& m), show 256 = 2 ^ 8 from rfl, Nat.testBit_two_pow_mul_add _ ha, Nat.testBit_two_pow_mul_add _ hm, Nat.testBit_two_pow_mul_add _ hab]
  split
  · rw [Nat.testBit_and]
  · rw [Nat.testBit_and]
/-- the three steps on a byte -/
def bc1 (a : Nat) : Nat := a - ((a / 2) &&& 0x55)
def bc2 (u : Nat) : Nat := (u &&& 0x33) + ((u / 4) &&& 0x33)
def bc3 (u : Nat) : Nat := (u + u / 16) &&& 0x0f
def pc8 (a : Nat) : Nat := cn (fun i => a.testBit i) 8
theorem pc_ok : ∀ a, a < 256 → bc3 (bc2 (bc1 a)) = pc8 a := by decide +kernel
theorem h1_lt : ∀ a, a < 256 → bc1 a < 256 ∧ ((a / 2) &&& 0x55) ≤ a := by decide +kernel
theorem h2_le : ∀ a, a < 256 → bc2 (bc1 a) ≤ 68 ∧ bc2 (bc1 a) % 16 ≤ 4 := by decide +kernel
theorem m1_ok : ∀ a, a < 256 → ∀ w, w < 2 → (a / 2 + 128 * w) &&& 0x55 = (a / 2) &&& 0x55 := by decide +kernel
theorem m2_ok : ∀ a, a < 256 → ∀ w, w < 4 → (a / 4 + 64 * w) &&& 0x33 = (a / 4) &&& 0x33 := by decide +kernel
theorem m3_ok : ∀ a, a < 69 → ∀ w, w < 5 → (a + a / 16 + 16 * w) &&& 0x0f = (a + a / 16) &&& 0x0f := by decide +kernel
theorem pc_le : ∀ a, a < 256 → pc8 a ≤ 8 := fun a _ => cn_le
def G1 (m u : Nat) : Nat := u - ((u / 2) &&& m)
def G2 (m u : Nat) : Nat := (u &&& m) + ((u / 4) &&& m)
def G3 (m u : Nat) : Nat := (u + u / 16) &&& m
theorem G1_s {a B n : Nat} (ha : a < 256) : G1 (0x55 + 256 * n) (a + 256 * B) = bc1 a + 256 * G1 n B := by
  unfold G1 bc1
  have e : (a + 256 * B) / 2 = (a / 2 + 128 * (B % 2)) + 256 * (B / 2) := by omega
  rw [e, and_lane (by omega) (by decide), m1_ok a ha (B % 2) (by omega)]
  have h1 := (h1_lt a ha).2
  have h2 : (B / 2) &&& n ≤ B := Nat.le_trans Nat.and_le_left (by omega)
  omega
theorem G2_s {a B n : Nat} (ha : a < 256) : G2 (0x33 + 256 * n) (a + 256 * B) = bc2 a + 256 * G2 n B := by
  unfold G2 bc2
  have e : (a + 256 * B) / 4 = (a / 4 + 64 * (B % 4)) + 256 * (B / 4) := by omega
  rw [e, and_lane ha (by decide), and_lane (by omega) (by decide), m2_ok a ha (B % 4) (by omega)]
  omega
theorem G3_s {a B n : Nat} (ha : a ≤ 68) (hB : B % 16 ≤ 4) : G3 (0x0f + 256 * n) (a + 256 * B) = bc3 a + 256 * G3 n B := by
  unfold G3 bc3
  have e : a + 256 * B + (a + 256 * B) / 16 = (a + a / 16 + 16 * (B % 16)) + 256 * (B + B / 16) := by omega
  rw [e, and_lane (by omega) (by decide), m3_ok a (by omega) (B % 16) (by omega)]
theorem G_0 : (∀ m, G1 m 0 = 0) ∧ (∀ m, G2 m 0 = 0) ∧ ∀ m, G3 m 0 = 0 := ⟨fun m => by unfold G1; simp, fun m => by unfold G2; simp, fun m => by unfold G3; simp⟩
theorem G_all {a b c : Nat} (ha : a < 256) (hb : b < 256) (hc : c < 256) : G3 0x0f0f0f0f (G2 0x33333333 (G1 0x55555555 (a + 256 * (b + 256 * c)))) = pc8 a + 256 * (pc8 b + 256 * pc8 c) := by
  have e1 : G1 0x55555555 (a + 256 * (b + 256 * c)) = bc1 a + 256 * (bc1 b + 256 * bc1 c) := by
    have := G1_s (n := 0x555555) (B := b + 256 * c) ha
    rw [show 0x55 + 256 * 0x555555 = 0x55555555 from rfl] at this
    rw [this]
    have := G1_s (n := 0x5555) (B := c) hb
    rw [show 0x55 + 256 * 0x5555 = 0x555555 from rfl] at this
    rw [this]
    have := G1_s (n := 0x55) (B := 0) hc
    rw [show 0x55 + 256 * 0x55 = 0x5555 from rfl, Nat.mul_zero, Nat.add_zero, G_0.1, Nat.mul_zero, Nat.add_zero] at this
    rw [this]
  have q1 := h1_lt a ha
  have q2 := h1_lt b hb
  have q3 := h1_lt c hc
  have e2 : G2 0x33333333 (bc1 a + 256 * (bc1 b + 256 * bc1 c)) = bc2 (bc1 a) + 256 * (bc2 (bc1 b) + 256 * bc2 (bc1 c)) := by
    have := G2_s (n := 0x333333) (B := bc1 b + 256 * bc1 c) q1.1
    rw [show 0x33 + 256 * 0x333333 = 0x33333333 from rfl] at this
    rw [this]
    have := G2_s (n := 0x3333) (B := bc1 c) q2.1
    rw [show 0x33 + 256 * 0x3333 = 0x333333 from rfl] at this
    rw [this]
    have := G2_s (n := 0x33) (B := 0) q3.1
    rw [show 0x33 + 256 * 0x33 = 0x3333 from rfl, Nat.mul_zero, Nat.add_zero, G_0.2.1, Nat.mul_zero, Nat.add_zero] at this
    rw [this]
  have p1 := h2_le a ha
  have p2 := h2_le b hb
  have p3 := h2_le c hc
  rw [e1, e2]
  have := G3_s (n := 0x0f0f0f) (B := bc2 (bc1 b) + 256 * bc2 (bc1 c)) p1.1 (by omega)
  rw [show 0x0f + 256 * 0x0f0f0f = 0x0f0f0f0f from rfl] at this
  rw [this]
  have := G3_s (n := 0x0f0f) (B := bc2 (bc1 c)) p2.1 p3.2
  rw [show 0x0f + 256 * 0x0f0f = 0x0f0f0f from rfl] at this
  rw [this]
  have := G3_s (n := 0x0f) (B := 0) p3.1 (by decide)
  rw [show 0x0f + 256 * 0x0f = 0x0f0f from rfl, Nat.mul_zero, Nat.add_zero, G_0.2.2, Nat.mul_zero, Nat.add_zero] at this
  rw [this, pc_ok a ha, pc_ok b hb, pc_ok c hc]
theorem G_end {p q r : Nat} (hp : p ≤ 8) (hq : q ≤ 8) (hr : r ≤ 8) (S : Nat) (hS : S = p + 256 * (q + 256 * r)) : (S + S / 256 + (S + S / 256) / 65536) &&& 63 = p + q + r := by
  have e1 : S / 256 = q + 256 * r := by omega
  have e2 : (S + S / 256) / 65536 = r := by rw [e1]; omega
  rw [show 63 = 2 ^ 6 - 1 from rfl, Nat.and_two_pow_sub_one_eq_mod, e2, e1, hS]
  omega
theorem z_nI (z : Int32) : z = nI (bN z) := by
  apply Int32.toBitVec_inj.mp
  show z.toBitVec = BitVec.ofInt 32 ((z.toBitVec.toNat : Nat) : Int)
  rw [BitVec.ofInt_natCast, BitVec.ofNat_toNat]
  simp
theorem BS.lt {z : Int32} {f : Nat → Bool} (hz : BS z f) : bN z < 2 ^ 24 := by
  apply Nat.lt_pow_two_of_testBit
  intro i hi
  rw [← bt_nat]
  by_cases h : i < 32
  · rw [hz i h, decide_eq_false (by omega)]; rfl
  · exact b_big (by omega)
theorem BS.cnt {z : Int32} {f : Nat → Bool} (hz : BS z f) : cn f 24 = pc8 (bN z % 256) + pc8 (bN z / 256 % 256) + pc8 (bN z / 65536 % 256) := by
  have hf : ∀ i, i < 24 → f i = (bN z).testBit i := fun i hi => by
    have := hz i (by omega)
    rw [decide_eq_true hi, Bool.true_and, bt_nat] at this
    exact this.symm
  have h8 : cn f (8 * 3) = sm (fun m => cn (fun s => f (8 * m + s)) 8) 3 := cn_8 3
  have lane : ∀ m, m < 3 → ∀ D, D = 2 ^ (8 * m) → cn (fun s => f (8 * m + s)) 8 = pc8 (bN z / D % 256) := fun m hm D hD => by
    unfold pc8
    refine cn_congr (fun s hs => ?_)
    rw [hf _ (by omega), hD, show 256 = 2 ^ 8 from rfl, Nat.testBit_mod_two_pow, decide_eq_true hs, Bool.true_and, Nat.testBit_div_two_pow, Nat.add_comm]
  show cn f (8 * 3) = _
  rw [h8]
  show 0 + cn (fun s => f (8 * 0 + s)) 8 + cn (fun s => f (8 * 1 + s)) 8 + cn (fun s => f (8 * 2 + s)) 8 = _
  rw [lane 0 (by decide) 1 rfl, lane 1 (by decide) 256 rfl, lane 2 (by decide) 65536 rfl, Nat.div_one, Nat.zero_add]
set_option maxHeartbeats 4000000 in
set_option maxRecDepth 100000 in
theorem con_J20_bitCount {l : Launch} {G : YG} {σ : AH} {z : Int32} {f : Nat → Bool} (hz : BS z f) : Con l yJ20_bitCount cJ20_bitCount 1 (some FieldType.int) G 0 0 0 [.int z] σ (PS σ (nI (cn f 24))) := by
  refine con_of (by decide) (Nat.le_of_ble_eq_true rfl) ?_
  refine x_locs (L' := [(0, .int z)]) [0] rfl ?_
  have hX := hz.lt
  obtain ⟨X, hXd⟩ : ∃ X, X = bN z := ⟨_, rfl⟩
  have hzX : z = nI X := by rw [hXd]; exact z_nI z
  rw [← hXd] at hX
  rw [hz.cnt, ← hXd]
  obtain ⟨a, ha⟩ : ∃ a, a = X % 256 := ⟨_, rfl⟩
  obtain ⟨b, hb⟩ : ∃ b, b = X / 256 % 256 := ⟨_, rfl⟩
  obtain ⟨c, hc⟩ : ∃ c, c = X / 65536 % 256 := ⟨_, rfl⟩
  rw [← ha, ← hb, ← hc]
  have ha8 : a < 256 := by omega
  have hb8 : b < 256 := by omega
  have hc8 : c < 256 := by omega
  have hXs : X = a + 256 * (b + 256 * c) := by omega
  have hG := G_all ha8 hb8 hc8
  rw [← hXs] at hG
  have hE := G_end (pc_le a ha8) (pc_le b hb8) (pc_le c hc8) _ hG
  obtain ⟨S1, hS1⟩ : ∃ S, S = G1 0x55555555 X := ⟨_, rfl⟩
  obtain ⟨S2, hS2⟩ : ∃ S, S = G2 0x33333333 S1 := ⟨_, rfl⟩
  obtain ⟨S3, hS3⟩ : ∃ S, S = G3 0x0f0f0f0f S2 := ⟨_, rfl⟩
  rw [← hS1, ← hS2, ← hS3] at hG hE
  have l1 : S1 ≤ X := by rw [hS1]; exact Nat.sub_le _ _
  have l2 : S2 < 2 ^ 26 := by
    rw [hS2]; unfold G2
    have g1 : S1 &&& 0x33333333 ≤ S1 := Nat.and_le_left
    have g2 : (S1 / 4) &&& 0x33333333 ≤ S1 / 4 := Nat.and_le_left
    omega
  have l3 : S3 < 2 ^ 28 := by
    rw [hS3]; unfold G3
    have g1 : (S2 + S2 / 16) &&& 0x0f0f0f0f ≤ S2 + S2 / 16 := Nat.and_le_left
    omega
  subst hzX
  refine x_iload_n dJ20_bitCount_0 0 rfl rfl ?_
  refine x_iload_n dJ20_bitCount_1 0 rfl rfl ?_
  refine x_iconst (v := nI 1) dJ20_bitCount_2 (by decide) ?_
  refine x_iushr (v := nI (X / 2 ^ 1)) dJ20_bitCount_3 (pk_ushrN (by omega) _ 1 (by decide)) ?_
  refine x_top (x' := nI (X / 2)) (rfl) ?_
  refine x_ldcw (v := nI 1431655765) dJ20_bitCount_4 q956 ?_
  refine x_iand dJ20_bitCount_7 ?_
  refine x_top (x' := nI ((X / 2) &&& 0x55555555)) (nI_and) ?_
  refine x_isub dJ20_bitCount_8 ?_
  refine x_top (x' := nI S1) (by rw [hS1]; exact nI_sub (Nat.le_trans Nat.and_le_left (by omega))) ?_
  refine x_istore_n (i := 0) (L' := [(0, .int (nI S1))]) dJ20_bitCount_9 rfl (by decide) rfl ?_
  refine x_iload_n dJ20_bitCount_10 0 rfl rfl ?_
  refine x_ldcw (v := nI 858993459) dJ20_bitCount_11 q957 ?_
  refine x_iand dJ20_bitCount_14 ?_
  refine x_top (x' := nI (S1 &&& 0x33333333)) (nI_and) ?_
  refine x_iload_n dJ20_bitCount_15 0 rfl rfl ?_
  refine x_iconst (v := nI 2) dJ20_bitCount_16 (by decide) ?_
  refine x_iushr (v := nI (S1 / 2 ^ 2)) dJ20_bitCount_17 (pk_ushrN (by omega) _ 2 (by decide)) ?_
  refine x_top (x' := nI (S1 / 4)) (rfl) ?_
  refine x_ldcw (v := nI 858993459) dJ20_bitCount_18 q957 ?_
  refine x_iand dJ20_bitCount_21 ?_
  refine x_top (x' := nI ((S1 / 4) &&& 0x33333333)) (nI_and) ?_
  refine x_iadd dJ20_bitCount_22 ?_
  refine x_top (x' := nI ((S1 &&& 0x33333333) + ((S1 / 4) &&& 0x33333333))) (nI_add _ _) ?_
  refine x_top (x' := nI S2) (by rw [hS2]; rfl) ?_
  refine x_istore_n (i := 0) (L' := [(0, .int (nI S2))]) dJ20_bitCount_23 rfl (by decide) rfl ?_
  refine x_iload_n dJ20_bitCount_24 0 rfl rfl ?_
  refine x_iload_n dJ20_bitCount_25 0 rfl rfl ?_
  refine x_iconst (v := nI 4) dJ20_bitCount_26 (by decide) ?_
  refine x_iushr (v := nI (S2 / 2 ^ 4)) dJ20_bitCount_27 (pk_ushrN (by omega) _ 4 (by decide)) ?_
  refine x_top (x' := nI (S2 / 16)) (rfl) ?_
  refine x_iadd dJ20_bitCount_28 ?_
  refine x_top (x' := nI (S2 + (S2 / 16))) (nI_add _ _) ?_
  refine x_ldcw (v := nI 252645135) dJ20_bitCount_29 q958 ?_
  refine x_iand dJ20_bitCount_32 ?_
  refine x_top (x' := nI S3) (by rw [hS3]; exact nI_and) ?_
  refine x_istore_n (i := 0) (L' := [(0, .int (nI S3))]) dJ20_bitCount_33 rfl (by decide) rfl ?_
  refine x_iload_n dJ20_bitCount_34 0 rfl rfl ?_
  refine x_iload_n dJ20_bitCount_35 0 rfl rfl ?_
  refine x_bipush (v := nI 8) dJ20_bitCount_36 (by decide) ?_
  refine x_iushr (v := nI (S3 / 2 ^ 8)) dJ20_bitCount_38 (pk_ushrN (by omega) _ 8 (by decide)) ?_
  refine x_top (x' := nI (S3 / 256)) (rfl) ?_
  refine x_iadd dJ20_bitCount_39 ?_
  refine x_top (x' := nI (S3 + (S3 / 256))) (nI_add _ _) ?_
  refine x_istore_n (i := 0) (L' := [(0, .int (nI (S3 + (S3 / 256))))]) dJ20_bitCount_40 rfl (by decide) rfl ?_
  refine x_iload_n dJ20_bitCount_41 0 rfl rfl ?_
  refine x_iload_n dJ20_bitCount_42 0 rfl rfl ?_
  refine x_bipush (v := nI 16) dJ20_bitCount_43 (by decide) ?_
  refine x_iushr (v := nI ((S3 + S3 / 256) / 2 ^ 16)) dJ20_bitCount_45 (pk_ushrN (by omega) _ 16 (by decide)) ?_
  refine x_top (x' := nI ((S3 + S3 / 256) / 65536)) (rfl) ?_
  refine x_iadd dJ20_bitCount_46 ?_
  refine x_top (x' := nI (S3 + (S3 / 256) + ((S3 + S3 / 256) / 65536))) (nI_add _ _) ?_
  refine x_istore_n (i := 0) (L' := [(0, .int (nI (S3 + (S3 / 256) + ((S3 + S3 / 256) / 65536))))]) dJ20_bitCount_47 rfl (by decide) rfl ?_
  refine x_iload_n dJ20_bitCount_48 0 rfl rfl ?_
  refine x_bipush (v := nI 63) dJ20_bitCount_49 (by decide) ?_
  refine x_iand dJ20_bitCount_51 ?_
  refine x_top (x' := nI (pc8 a + pc8 b + pc8 c)) (by rw [nI_and, hE]) ?_
  exact x_iret dJ20_bitCount_52 rfl (pS)
