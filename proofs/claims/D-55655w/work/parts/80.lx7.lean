set_option maxRecDepth 100000
-- ===== all pairs =====
def wsh (E : Nat → Nat → Bool) : Nat → Nat → Nat → Bool
  | 0, a, b => E a b
  | j + 1, a, b => wsh E j a b || (wsh E j a j && wsh E j j b)
theorem wsh_s {E : Nat → Nat → Bool} {j a b : Nat} : wsh E (j + 1) a b = (wsh E j a b || (wsh E j a j && wsh E j j b)) := rfl
theorem wsh_up {E : Nat → Nat → Bool} {j a b : Nat} (h : wsh E j a b = true) : wsh E (j + 1) a b = true := by rw [wsh_s, h]; rfl
theorem wsh_mono {E : Nat → Nat → Bool} {a b : Nat} {j n : Nat} (hj : j ≤ n) (h : wsh E j a b = true) : wsh E n a b = true := by
  induction n with
  | zero => rw [Nat.le_zero.mp hj] at h; exact h
  | succ n ih =>
    by_cases e : j = n + 1
    · rw [← e]; exact h
    · exact wsh_up (ih (by omega))
theorem wsh_sound {E : Nat → Nat → Bool} : ∀ (j a b : Nat), wsh E j a b = true → Relation.TransGen (fun x y => E x y = true) a b := by
  intro j
  induction j with
  | zero => intro a b h; exact Relation.TransGen.single h
  | succ j ih =>
    intro a b h
    rw [wsh_s] at h
    rcases Bool.or_eq_true _ _ |>.mp h with h | h
    · exact ih a b h
    · have := Bool.and_eq_true _ _ |>.mp h
      exact Relation.TransGen.trans (ih a j this.1) (ih j b this.2)
theorem wsh_tr {E : Nat → Nat → Bool} : ∀ (j k a b : Nat), k < j → wsh E j a k = true → wsh E j k b = true → wsh E j a b = true := by
  intro j
  induction j with
  | zero => intro k a b h; exact absurd h (Nat.not_lt_zero k)
  | succ j ih =>
    intro k a b hk h1 h2
    rw [wsh_s] at h1 h2 ⊢
    have e1 : wsh E j a k = true ∨ (wsh E j a j = true ∧ wsh E j j k = true) := by
      rcases Bool.or_eq_true _ _ |>.mp h1 with h | h
      · exact Or.inl h
      · exact Or.inr (Bool.and_eq_true _ _ |>.mp h)
    have e2 : wsh E j k b = true ∨ (wsh E j k j = true ∧ wsh E j j b = true) := by
      rcases Bool.or_eq_true _ _ |>.mp h2 with h | h
      · exact Or.inl h
      · exact Or.inr (Bool.and_eq_true _ _ |>.mp h)
    have fin : (wsh E j a j = true ∧ wsh E j j b = true) → (wsh E j a b || (wsh E j a j && wsh E j j b)) = true := fun z => by rw [z.1, z.2]; simp
    by_cases q : k = j
    · subst q
      refine fin ⟨?_, ?_⟩
      · rcases e1 with h | h
        · exact h
        · exact h.1
      · rcases e2 with h | h
        · exact h
        · exact h.2
    · have hkj : k < j := by omega
      rcases e1 with g1 | g1
      · rcases e2 with g2 | g2
        · rw [ih k a b hkj g1 g2]; rfl
        · exact fin ⟨ih k a j hkj g1 g2.1, g2.2⟩
      · rcases e2 with g2 | g2
        · exact fin ⟨g1.1, ih k j b hkj g1.2 g2⟩
        · exact fin ⟨g1.1, g2.2⟩
theorem wsh_iff {S : AS} (hI : IV S) {a b : Nat} : wsh (edge S) 24 a b = rB S a b := by
  cases e : rB S a b with
  | true =>
    have h := rB_iff.mp e
    clear e
    induction h with
    | single h => exact wsh_mono (j := 0) (Nat.zero_le _) h
    | tail h1 h2 ih =>
      have hc := reach_lt hI (show reach S a _ from h1)
      have := hI.c
      exact wsh_tr 24 _ a _ (by omega) ih (wsh_mono (j := 0) (Nat.zero_le _) h2)
  | false =>
    cases e2 : wsh (edge S) 24 a b with
    | false => rfl
    | true => rw [rB_iff.mpr (wsh_sound 24 a b e2)] at e; cases e
theorem wsh_f {E : Nat → Nat → Bool} {x : Nat} (h : ∀ o, E x o = false) : ∀ k o, wsh E k x o = false := by
  intro k
  induction k with
  | zero => intro o; exact h o
  | succ k ih => intro o; rw [wsh_s, ih o, ih k]; rfl
theorem wsh_jj {E : Nat → Nat → Bool} {j : Nat} : wsh E (j + 1) j = wsh E j j := by
  funext o
  rw [wsh_s]
  cases wsh E j j o <;> simp
theorem wsh_no {E : Nat → Nat → Bool} {j x : Nat} (h : wsh E j x j = false) : wsh E (j + 1) x = wsh E j x := by
  funext o
  rw [wsh_s, h]
  simp
theorem wsh_skip {E : Nat → Nat → Bool} {j x : Nat} (h : ∀ o, E j o = false) : wsh E (j + 1) x = wsh E j x := by
  funext o
  rw [wsh_s, wsh_f h j o]
  simp
theorem wsh_yes {E : Nat → Nat → Bool} {j x : Nat} (h : wsh E j x j = true) : encB (wsh E j x) ||| encB (wsh E j j) = encB (wsh E (j + 1) x) := by
  have : wsh E (j + 1) x = fun o => wsh E j x o || wsh E j j o := by funext o; rw [wsh_s, h]; simp
  rw [this]
  exact ((encB_BS _).or (encB_BS _)).enc
theorem edge_idle {S : AS} (hI : IV S) {x : Nat} (h : tH S x = false) : ∀ o, edge S x o = false := fun o => edge_none (by
  cases e : aAt S x with
  | none => rfl
  | some s => rw [wait_th hI e] at h; cases h)
theorem wsh_idle {S : AS} (hI : IV S) {x j k : Nat} (h : tH S x = false) : wsh (edge S) j x = wsh (edge S) k x := by
  funext o
  rw [wsh_f (edge_idle hI h), wsh_f (edge_idle hI h)]
def ws1 (S : AS) (j i : Nat) : Nat → Bool := fun o => decide (i < j) && edge S i o
theorem ws1_s {S : AS} {j : Nat} : ws1 S (j + 1) j = edge S j := by funext o; unfold ws1; simp
theorem ws1_n {S : AS} {j i : Nat} (h : i ≠ j) : ws1 S (j + 1) i = ws1 S j i := by
  funext o
  unfold ws1
  have : decide (i < j + 1) = decide (i < j) := decide_eq_decide.mpr (by omega)
  rw [this]
theorem ws1_f {S : AS} {j i : Nat} (h : ∀ o, edge S j o = false) : ws1 S (j + 1) i = ws1 S j i := by
  by_cases e : i = j
  · subst e; rw [ws1_s]; funext o; unfold ws1; rw [h o]; simp
  · exact ws1_n e
theorem ws1_0 {S : AS} {i : Nat} : encB (ws1 S 0 i) = 0 := by
  have : ws1 S 0 i = fun _ => false := by funext o; unfold ws1; simp
  rw [this]; exact BS.zero.enc.symm
def wIx (j x i : Nat) : Nat := if i < x then j + 1 else j
theorem wIx_lt {j x i : Nat} (h : i ≠ x) : wIx j (x + 1) i = wIx j x i := by
  unfold wIx
  by_cases e : i < x
  · rw [if_pos e, if_pos (by omega)]
  · rw [if_neg e, if_neg (by omega)]
theorem wIx_s {j x : Nat} : wIx j (x + 1) x = j + 1 := if_pos (Nat.lt_succ_self x)
theorem wIx_x {j x : Nat} : wIx j x x = j := if_neg (Nat.lt_irrefl x)
theorem wIx_0 {j i : Nat} : wIx j 0 i = j := if_neg (Nat.not_lt_zero i)
theorem wIx_e {j i : Nat} (h : i < 24) : wIx j 24 i = j + 1 := if_pos h
theorem wsh_wIx {E : Nat → Nat → Bool} {j x : Nat} : wsh E (wIx j x j) j = wsh E j j := by
  unfold wIx
  split
  · exact wsh_jj
  · rfl
theorem sm_cn {f : Nat → Bool} {c : Nat} : ∀ n, sm (fun o => if f o = true then c else 0) n = c * cn f n := by
  intro n
  induction n with
  | zero => rfl
  | succ n ih =>
    show sm _ n + (if f n = true then c else 0) = c * (cn f n + (if f n then 1 else 0))
    rw [ih, Nat.mul_add]
    by_cases e : f n = true <;> simp [e]
def c2T (S : AS) (c : Nat) (o : Nat) : Nat := if tH S o = true then c else 0
theorem c2T_sm {S : AS} (hI : IV S) {c : Nat} : su (c2T S c) 0 24 ≤ c * 8 := by
  rw [su_24]
  unfold c2T
  rw [sm_cn]
  exact Nat.mul_le_mul_left c hI.2.2.2.2.2.2.2.2.2
set_option maxHeartbeats 4000000 in
set_option maxRecDepth 100000 in
theorem con_X1_isInRingAgain {l : Launch} {G : YG} {σ : AH} {a : Nat} {ad : Nat → Nat} {N : Nat → NL} {mc : Nat → Int32} {S : AS} {m : Nat} (hL : LD σ a ad N mc S) (hI : IV S) (hm : m < 24) : Con l yX1_isInRingAgain cX1_isInRingAgain 7 (some FieldType.boolean) G 10 (21 + tw S) (5 * (21 + tw S)) [.ref a, .int (nI m)] σ (PRO σ (bI (rB S m m))) := by
  refine con_of (by decide) (Nat.le_of_ble_eq_true rfl) ?_
  refine x_locs (L' := [(0, .ref a), (1, .int (nI m))]) [0, 1] rfl ?_
  have ho := hL.o
  have hL0 := hL
  have htw : tw S = sm (cW S) 24 := rfl
  have hsu := su_24 (c := cW S)
  have hsu5 := su_t5 (c := cW S) 24 0
  have h8 := c2T_sm hI (c := 2)
  have h83 := c2T_sm hI (c := 3)
  refine x_bipush (v := nI 24) dX1_isInRingAgain_0 (by decide) ?_
  refine x_newi (N := 24) dX1_isInRingAgain_2 q204 rfl (by first | omega | decide) (by omega) (by omega) (fun sa σ1 hn2 hb3 hc4 hu5 => ?_)
  have ho := ro_new hn2 hu5 _ _ ho
  have san : σ sa = none := hn2
  have hR := ro_new hn2 hu5
  have hL := hL0.ro hR
  have ho := hL.o
  have hsa := hc4
  refine x_astore_n (i := 2) (L' := [(2, .ref sa), (0, .ref a), (1, .int (nI m))]) dX1_isInRingAgain_4 rfl (by decide) rfl ?_
  refine x_aload_n dX1_isInRingAgain_5 1 rfl rfl ?_
  refine x_callV dX1_isInRingAgain_6 (con_X1_maids hL) (lw_V q1130 q1131 q1132 q86 q1133) (np := 0) (by decide +kernel) rfl (rcv_of vC_1 ho) ⟨Nat.le_of_ble_eq_true rfl, Nat.le_of_ble_eq_true rfl⟩ (Nat.le_of_ble_eq_true rfl) rfl (by omega) (by omega) (rA fun it7 σ8 hm6 => ?_) nA'
  obtain ⟨it7n, it7c, it7u⟩ := hm6
  have hL := hL.ro (ro_new it7n it7u)
  have ho := hL.o
  have hsa := (ro_new it7n it7u) _ _ hsa
  refine x_callF dX1_isInRingAgain_9 (con_X5_iterator it7c) (lw_F q1148 q1152 q1154 q120 q1156) q1150 q1149 q1155 q1153 q1151 (np := 0) (by decide +kernel) rfl vC_5 it7c ⟨Nat.le_of_ble_eq_true rfl, Nat.le_of_ble_eq_true rfl⟩ (Nat.le_of_ble_eq_true rfl) rfl (by omega) (by omega) (rA fun b σ10 hm9 => ?_) nA'
  obtain ⟨bn0, bc, bu⟩ := hm9
  have n_sa_b : sa ≠ b := cell_nn bn0 hsa
  have hL := hL.ro (ro_new bn0 bu)
  have ho := hL.o
  have hsa := (ro_new bn0 bu) _ _ hsa
  have bn : σ b = none := ((hR).tr (ro_new it7n it7u)).nn bn0
  have hRb := ((hR).tr (ro_new it7n it7u)).tr (ro_new bn0 bu)
  refine x_astore_n (i := 3) (L' := [(3, .ref b), (2, .ref sa), (0, .ref a), (1, .int (nI m))]) dX1_isInRingAgain_14 rfl (by decide) rfl ?_
  refine x_locs (L' := [(0, .ref a), (1, .int (nI m)), (2, .ref sa), (3, .ref b)]) [2, 3, 1, 0] rfl ?_
  suffices loop : ∀ (d j : Nat) (τ : AH) (z : Int32) (k n : Nat) (f : Nat → Int32), j + d = 24 → RO σ τ → τ b = some (.inr (6, [.int z])) → BS z (fun i => decide (j ≤ i) && tH S i) → su (cW S) j d + 18 ≤ k → su (fun i => 5 * cW S i) j d + 27 ≤ n → τ sa = some (.inl (0, 24, .inl f)) → (∀ i, i < 24 → f i = encB (ws1 S j i)) → X l yX1_isInRingAgain cX1_isInRingAgain 7 (some FieldType.boolean) [] G (yroom 10 (21 + tw S) (5 * (21 + tw S))) (yEnd G (yroom 10 (21 + tw S) (5 * (21 + tw S))) (PRO σ (bI (rB S m m)))) 15 [(0, .ref a), (1, .int (nI m)), (2, .ref sa), (3, .ref b)] [] τ k n from loop 24 0 _ _ _ _ _ (Nat.zero_add _) (hRb) bc (encB_BS _) (by omega) (by omega) hsa (fun i hi => ws1_0.symm)
  intro d
  induction d with
  | zero =>
    intro j τ z k n f hj hR hc hz hk0 hn0 hsa hf
    have hL := hL0.ro hR
    have ho := hL.o
    have hj24 : j = 24 := by omega
    subst hj24
    have hz0 : z = 0 := hz.zero_iff.mpr (fun i hi => by rw [decide_eq_false (by omega)]; rfl)
    refine x_aload_n dX1_isInRingAgain_15 3 rfl rfl ?_
    refine x_callF dX1_isInRingAgain_16 (con_X6_hasNext hc) (lw_F q509 q513 q515 q121 q517) q511 q510 q516 q514 q512 (np := 0) (by decide +kernel) rfl vC_6 hc ⟨Nat.le_of_ble_eq_true rfl, Nat.le_of_ble_eq_true rfl⟩ (Nat.le_of_ble_eq_true rfl) rfl (Nat.zero_le _) (Nat.zero_le _) (rS ?_) nI'
    refine x_top (x' := 0) (by rw [hz0]; rfl) ?_
    refine x_if_eq (tgt := 51) dX1_isInRingAgain_21 (by decide) (fun _ => ?_) (fun h_ => absurd (rfl) h_)
    have hf : ∀ i, i < 24 → f i = encB (wsh (edge S) 0 i) := fun i hi => (hf i hi).trans (congrArg encB (by funext o; unfold ws1; rw [decide_eq_true hi]; rfl))
    refine x_aload_n dX1_isInRingAgain_51 0 rfl rfl ?_
    refine x_callV dX1_isInRingAgain_52 (con_X1_maids hL) (lw_V q1130 q1131 q1132 q86 q1133) (np := 0) (by decide +kernel) rfl (rcv_of vC_1 ho) ⟨Nat.le_of_ble_eq_true rfl, Nat.le_of_ble_eq_true rfl⟩ (Nat.le_of_ble_eq_true rfl) rfl (by omega) (by omega) (rA fun it13 σ14 hm12 => ?_) nA'
    obtain ⟨it13n, it13c, it13u⟩ := hm12
    have hL := hL.ro (ro_new it13n it13u)
    have ho := hL.o
    have hsa := (ro_new it13n it13u) _ _ hsa
    refine x_callF dX1_isInRingAgain_55 (con_X5_iterator it13c) (lw_F q1148 q1152 q1154 q120 q1156) q1150 q1149 q1155 q1153 q1151 (np := 0) (by decide +kernel) rfl vC_5 it13c ⟨Nat.le_of_ble_eq_true rfl, Nat.le_of_ble_eq_true rfl⟩ (Nat.le_of_ble_eq_true rfl) rfl (by omega) (by omega) (rA fun b2 σ16 hm15 => ?_) nA'
    obtain ⟨b2n0, b2c, b2u⟩ := hm15
    have n_sa_b2 : sa ≠ b2 := cell_nn b2n0 hsa
    have hL := hL.ro (ro_new b2n0 b2u)
    have ho := hL.o
    have hsa := (ro_new b2n0 b2u) _ _ hsa
    have b2n : σ b2 = none := ((hR).tr (ro_new it13n it13u)).nn b2n0
    have hRb2 := ((hR).tr (ro_new it13n it13u)).tr (ro_new b2n0 b2u)
    refine x_astore_n (i := 3) (L' := [(3, .ref b2), (0, .ref a), (1, .int (nI m)), (2, .ref sa)]) dX1_isInRingAgain_60 rfl (by decide) rfl ?_
    refine x_locs (L' := [(0, .ref a), (1, .int (nI m)), (2, .ref sa), (3, .ref b2)]) [1, 2, 3, 0] rfl ?_
    suffices loop : ∀ (d2 j : Nat) (τ : AH) (z : Int32) (k n : Nat) (f : Nat → Int32), j + d2 = 24 → RO σ τ → τ b2 = some (.inr (6, [.int z])) → BS z (fun i => decide (j ≤ i) && tH S i) → su (c2T S 2) j d2 ≤ k → su (c2T S 3) j d2 ≤ n → τ sa = some (.inl (0, 24, .inl f)) → (∀ i, i < 24 → f i = encB (wsh (edge S) j i)) → X l yX1_isInRingAgain cX1_isInRingAgain 7 (some FieldType.boolean) [] G (yroom 10 (21 + tw S) (5 * (21 + tw S))) (yEnd G (yroom 10 (21 + tw S) (5 * (21 + tw S))) (PRO σ (bI (rB S m m)))) 61 [(0, .ref a), (1, .int (nI m)), (2, .ref sa), (3, .ref b2)] [] τ k n from loop 24 0 _ _ _ _ _ (Nat.zero_add _) (hRb2) b2c (encB_BS _) (by omega) (by omega) hsa hf
    intro d2
    induction d2 with
    | zero =>
      intro j τ z k n f hj hR hc hz hk0 hn0 hsa hf
      have hL := hL0.ro hR
      have ho := hL.o
      have hj24 : j = 24 := by omega
      subst hj24
      have hz0 : z = 0 := hz.zero_iff.mpr (fun i hi => by rw [decide_eq_false (by omega)]; rfl)
      refine x_aload_n dX1_isInRingAgain_61 3 rfl rfl ?_
      refine x_callF dX1_isInRingAgain_62 (con_X6_hasNext hc) (lw_F q509 q513 q515 q121 q517) q511 q510 q516 q514 q512 (np := 0) (by decide +kernel) rfl vC_6 hc ⟨Nat.le_of_ble_eq_true rfl, Nat.le_of_ble_eq_true rfl⟩ (Nat.le_of_ble_eq_true rfl) rfl (Nat.zero_le _) (Nat.zero_le _) (rS ?_) nI'
      refine x_top (x' := 0) (by rw [hz0]; rfl) ?_
      refine x_if_eq (tgt := 153) dX1_isInRingAgain_67 (by decide) (fun _ => ?_) (fun h_ => absurd (rfl) h_)
      refine x_aload_n dX1_isInRingAgain_153 2 rfl rfl ?_
      refine x_iload_n dX1_isInRingAgain_154 1 rfl rfl ?_
      refine x_iald (N := 24) (j := m) (v := (encB (wsh (edge S) 24 m))) dX1_isInRingAgain_155 hsa rfl (hm) (by decide) (hf m hm) ?_
      refine x_iload_n dX1_isInRingAgain_156 1 rfl rfl ?_
      refine x_callSN dX1_isInRingAgain_157 (con_X0_has (encB_BS (wsh (edge S) 24 m)) hm) (lw_meth q1055) q85 q1053 q1054 (np := 2) (by decide +kernel) rfl ⟨Nat.le_of_ble_eq_true rfl, Nat.le_of_ble_eq_true rfl⟩ (Nat.le_of_ble_eq_true rfl) rfl (Nat.zero_le _) (Nat.zero_le _) (rS ?_) nI'
      exact x_zret dX1_isInRingAgain_160 rfl (bI_z _) (pRo (by rw [wsh_iff hI]) hR)
    | succ d2 ih2 =>
      intro j τ z k n f hj hR hc hz hk0 hn0 hsa hf
      have hL := hL0.ro hR
      have ho := hL.o
      by_cases ht : tH S j = true
      · have hjC := hI.th ht
        have hC := hI.c
        have hfj : (decide (j ≤ j) && tH S j) = true := by rw [ht]; simp
        have hlo : ∀ i, i < j → (decide (j ≤ i) && tH S i) = false := fun i hi => by rw [decide_eq_false (by omega)]; rfl
        have hzn : z ≠ 0 := fun e => by have := hz.zero_iff.mp e j (by omega); rw [hfj] at this; cases this
        have hk1 := su_le hk0
        have hn1 := su_le hn0
        refine x_aload_n dX1_isInRingAgain_61 3 rfl rfl ?_
        refine x_callF dX1_isInRingAgain_62 (con_X6_hasNext hc) (lw_F q509 q513 q515 q121 q517) q511 q510 q516 q514 q512 (np := 0) (by decide +kernel) rfl vC_6 hc ⟨Nat.le_of_ble_eq_true rfl, Nat.le_of_ble_eq_true rfl⟩ (Nat.le_of_ble_eq_true rfl) rfl (Nat.zero_le _) (Nat.zero_le _) (rS ?_) nI'
        refine x_top (x' := 1) (by rw [decide_eq_true hzn]; rfl) ?_
        refine x_if_eq (tgt := 153) dX1_isInRingAgain_67 (by decide) (fun h_ => absurd h_ (by decide)) (fun _ => ?_)
        refine x_aload_n dX1_isInRingAgain_70 3 rfl rfl ?_
        refine x_callF dX1_isInRingAgain_71 (con_X6_next hc hz (by omega) hfj hlo) (lw_F q555 q558 q560 q121 q562) q557 q556 q561 q559 q512 (np := 0) (by decide +kernel) rfl vC_6 hc ⟨Nat.le_of_ble_eq_true rfl, Nat.le_of_ble_eq_true rfl⟩ (Nat.le_of_ble_eq_true rfl) rfl (Nat.zero_le _) (Nat.zero_le _) (rA fun u σ21 h20 => ?_) nA'
        obtain ⟨rfl, hc, hbu⟩ := h20
        have hR := hR.nx b2n hbu
        have hL := hL0.ro hR
        have ho := hL.o
        have hz := BS.stepT hz (by omega) hfj hlo
        refine x_ckcast dX1_isInRingAgain_76 q1211 (bx_rc (by omega)) ?_
        refine x_callV dX1_isInRingAgain_79 (con_J20_intValue (n := j) (by omega)) (lw_V q1212 q1213 q1214 q110 q1215) (np := 0) (by decide +kernel) rfl (bx_rc (by omega)) ⟨Nat.le_of_ble_eq_true rfl, Nat.le_of_ble_eq_true rfl⟩ (Nat.le_of_ble_eq_true rfl) rfl (Nat.zero_le _) (Nat.zero_le _) (rS ?_) nI'
        have hsa := at_put hbu hsa n_sa_b2
        have hcj : c2T S 2 j = 2 := if_pos ht
        have hcj3 : c2T S 3 j = 3 := if_pos ht
        refine x_istore (i := 4) (L' := [(4, .int (nI j)), (0, .ref a), (1, .int (nI m)), (2, .ref sa), (3, .ref b2)]) dX1_isInRingAgain_82 (by decide) rfl ?_
        refine x_aload_n dX1_isInRingAgain_84 1 rfl rfl ?_
        refine x_callV dX1_isInRingAgain_85 (con_X1_maids hL) (lw_V q1130 q1131 q1132 q86 q1133) (np := 0) (by decide +kernel) rfl (rcv_of vC_1 ho) ⟨Nat.le_of_ble_eq_true rfl, Nat.le_of_ble_eq_true rfl⟩ (Nat.le_of_ble_eq_true rfl) rfl (by omega) (by omega) (rA fun it24 σ25 hm23 => ?_) nA'
        obtain ⟨it24n, it24c, it24u⟩ := hm23
        have hL := hL.ro (ro_new it24n it24u)
        have ho := hL.o
        have hsa := (ro_new it24n it24u) _ _ hsa
        have hc := (ro_new it24n it24u) _ _ hc
        refine x_callF dX1_isInRingAgain_88 (con_X5_iterator it24c) (lw_F q1148 q1152 q1154 q120 q1156) q1150 q1149 q1155 q1153 q1151 (np := 0) (by decide +kernel) rfl vC_5 it24c ⟨Nat.le_of_ble_eq_true rfl, Nat.le_of_ble_eq_true rfl⟩ (Nat.le_of_ble_eq_true rfl) rfl (by omega) (by omega) (rA fun b3 σ27 hm26 => ?_) nA'
        obtain ⟨b3n0, b3c, b3u⟩ := hm26
        have n_sa_b3 : sa ≠ b3 := cell_nn b3n0 hsa
        have n_b2_b3 : b2 ≠ b3 := cell_nn b3n0 hc
        have hL := hL.ro (ro_new b3n0 b3u)
        have ho := hL.o
        have hsa := (ro_new b3n0 b3u) _ _ hsa
        have hc := (ro_new b3n0 b3u) _ _ hc
        have b3n : σ b3 = none := ((hR).tr (ro_new it24n it24u)).nn b3n0
        have hRb3 := ((hR).tr (ro_new it24n it24u)).tr (ro_new b3n0 b3u)
        refine x_astore (i := 5) (L' := [(5, .ref b3), (4, .int (nI j)), (0, .ref a), (1, .int (nI m)), (2, .ref sa), (3, .ref b2)]) dX1_isInRingAgain_93 (by decide) rfl ?_
        refine x_locs (L' := [(0, .ref a), (1, .int (nI m)), (2, .ref sa), (3, .ref b2), (4, .int (nI j)), (5, .ref b3)]) [2, 3, 4, 5, 1, 0] rfl ?_
        obtain ⟨zo, hzo⟩ : ∃ zo, zo = z &&& (z - nI 1) := ⟨_, rfl⟩
        rw [← hzo] at hc hz
        have hzj := hz
        suffices loop : ∀ (d3 x : Nat) (τ : AH) (z : Int32) (k n : Nat) (g : Nat → Int32), x + d3 = 24 → RO σ τ → τ b3 = some (.inr (6, [.int z])) → BS z (fun i => decide (x ≤ i) && tH S i) → su (c2T S 2) (j + 1) d2 ≤ k → su (c2T S 3) (j + 1) d2 ≤ n → τ b2 = some (.inr (6, [.int zo])) → τ sa = some (.inl (0, 24, .inl g)) → (∀ i, i < 24 → g i = encB (wsh (edge S) (wIx j x i) i)) → X l yX1_isInRingAgain cX1_isInRingAgain 7 (some FieldType.boolean) [] G (yroom 10 (21 + tw S) (5 * (21 + tw S))) (yEnd G (yroom 10 (21 + tw S) (5 * (21 + tw S))) (PRO σ (bI (rB S m m)))) 95 [(0, .ref a), (1, .int (nI m)), (2, .ref sa), (3, .ref b2), (4, .int (nI j)), (5, .ref b3)] [] τ k n from loop 24 0 _ _ _ _ _ (Nat.zero_add _) (hRb3) b3c (encB_BS _) (by omega) (by omega) hc hsa (fun i hi => by rw [hf i hi, wIx_0])
        intro d3
        induction d3 with
        | zero =>
          intro x τ z k n g hj hR hc hz hk0 hn0 hc2 hsa hg
          have hL := hL0.ro hR
          have ho := hL.o
          have hj24 : x = 24 := by omega
          subst hj24
          have hz0 : z = 0 := hz.zero_iff.mpr (fun i hi => by rw [decide_eq_false (by omega)]; rfl)
          refine x_aload dX1_isInRingAgain_95 5 rfl ?_
          refine x_callF dX1_isInRingAgain_97 (con_X6_hasNext hc) (lw_F q509 q513 q515 q121 q517) q511 q510 q516 q514 q512 (np := 0) (by decide +kernel) rfl vC_6 hc ⟨Nat.le_of_ble_eq_true rfl, Nat.le_of_ble_eq_true rfl⟩ (Nat.le_of_ble_eq_true rfl) rfl (Nat.zero_le _) (Nat.zero_le _) (rS ?_) nI'
          refine x_top (x' := 0) (by rw [hz0]; rfl) ?_
          refine x_if_eq (tgt := 150) dX1_isInRingAgain_102 (by decide) (fun _ => ?_) (fun h_ => absurd (rfl) h_)
          refine x_goto (tgt := 61) dX1_isInRingAgain_150 (by decide) ?_
          refine x_locs (L' := [(0, .ref a), (1, .int (nI m)), (2, .ref sa), (3, .ref b2)]) [0, 1, 2, 3] rfl ?_
          exact ih2 (j + 1) _ _ _ _ _ (by omega) hR hc2 hzj hk0 hn0 hsa (fun i hi => by rw [hg i hi, wIx_e hi])
        | succ d3 ih3 =>
          intro x τ z k n g hj hR hc hz hk0 hn0 hc2 hsa hg
          have hL := hL0.ro hR
          have ho := hL.o
          by_cases ht : tH S x = true
          · have hjC := hI.th ht
            have hC := hI.c
            have hfj : (decide (x ≤ x) && tH S x) = true := by rw [ht]; simp
            have hlo : ∀ i, i < x → (decide (x ≤ i) && tH S i) = false := fun i hi => by rw [decide_eq_false (by omega)]; rfl
            have hzn : z ≠ 0 := fun e => by have := hz.zero_iff.mp e x (by omega); rw [hfj] at this; cases this
            refine x_aload dX1_isInRingAgain_95 5 rfl ?_
            refine x_callF dX1_isInRingAgain_97 (con_X6_hasNext hc) (lw_F q509 q513 q515 q121 q517) q511 q510 q516 q514 q512 (np := 0) (by decide +kernel) rfl vC_6 hc ⟨Nat.le_of_ble_eq_true rfl, Nat.le_of_ble_eq_true rfl⟩ (Nat.le_of_ble_eq_true rfl) rfl (Nat.zero_le _) (Nat.zero_le _) (rS ?_) nI'
            refine x_top (x' := 1) (by rw [decide_eq_true hzn]; rfl) ?_
            refine x_if_eq (tgt := 150) dX1_isInRingAgain_102 (by decide) (fun h_ => absurd h_ (by decide)) (fun _ => ?_)
            refine x_aload dX1_isInRingAgain_105 5 rfl ?_
            refine x_callF dX1_isInRingAgain_107 (con_X6_next hc hz (by omega) hfj hlo) (lw_F q555 q558 q560 q121 q562) q557 q556 q561 q559 q512 (np := 0) (by decide +kernel) rfl vC_6 hc ⟨Nat.le_of_ble_eq_true rfl, Nat.le_of_ble_eq_true rfl⟩ (Nat.le_of_ble_eq_true rfl) rfl (Nat.zero_le _) (Nat.zero_le _) (rA fun u σ31 h30 => ?_) nA'
            obtain ⟨rfl, hc, hbu⟩ := h30
            have hR := hR.nx b3n hbu
            have hL := hL0.ro hR
            have ho := hL.o
            have hz := BS.stepT hz (by omega) hfj hlo
            refine x_ckcast dX1_isInRingAgain_112 q1211 (bx_rc (by omega)) ?_
            refine x_callV dX1_isInRingAgain_115 (con_J20_intValue (n := x) (by omega)) (lw_V q1212 q1213 q1214 q110 q1215) (np := 0) (by decide +kernel) rfl (bx_rc (by omega)) ⟨Nat.le_of_ble_eq_true rfl, Nat.le_of_ble_eq_true rfl⟩ (Nat.le_of_ble_eq_true rfl) rfl (Nat.zero_le _) (Nat.zero_le _) (rS ?_) nI'
            have hsa := at_put hbu hsa n_sa_b3
            have hc2 := at_put hbu hc2 n_b2_b3
            have hj24 : j < 24 := by omega
            refine x_istore (i := 6) (L' := [(6, .int (nI x)), (0, .ref a), (1, .int (nI m)), (2, .ref sa), (3, .ref b2), (4, .int (nI j)), (5, .ref b3)]) dX1_isInRingAgain_118 (by decide) rfl ?_
            refine x_aload_n dX1_isInRingAgain_120 3 rfl rfl ?_
            refine x_iload dX1_isInRingAgain_121 0 rfl ?_
            refine x_dup2_11 dX1_isInRingAgain_123 rfl rfl ?_
            refine x_iald (N := 24) (j := x) (v := (encB (wsh (edge S) j x))) dX1_isInRingAgain_124 hsa rfl (by omega) (by decide) ((hg x (by omega)).trans (by rw [wIx_x])) ?_
            refine x_aload_n dX1_isInRingAgain_125 3 rfl rfl ?_
            refine x_iload dX1_isInRingAgain_126 0 rfl ?_
            refine x_iald (N := 24) (j := x) (v := (encB (wsh (edge S) j x))) dX1_isInRingAgain_128 hsa rfl (by omega) (by decide) ((hg x (by omega)).trans (by rw [wIx_x])) ?_
            refine x_iload dX1_isInRingAgain_129 5 rfl ?_
            refine x_callSN dX1_isInRingAgain_131 (con_X0_has (encB_BS (wsh (edge S) j x)) (o := j) hj24) (lw_meth q1055) q85 q1053 q1054 (np := 2) (by decide +kernel) rfl ⟨Nat.le_of_ble_eq_true rfl, Nat.le_of_ble_eq_true rfl⟩ (Nat.le_of_ble_eq_true rfl) rfl (Nat.zero_le _) (Nat.zero_le _) (rS ?_) nI'
            refine x_if_eq (tgt := 144) dX1_isInRingAgain_134 (by decide) (fun c1 => ?_) (fun c1 => ?_)
            · have c1 := bI_0 c1
              refine x_iconst (v := nI 0) dX1_isInRingAgain_144 (by decide) ?_
              refine x_ior dX1_isInRingAgain_145 ?_
              refine x_top (x' := (encB (wsh (edge S) (j + 1) x))) (by rw [nI_0, Int32.or_zero, wsh_no c1]) ?_
              refine x_iast (N := 24) (j := x) (w := (encB (wsh (edge S) (j + 1) x))) dX1_isInRingAgain_146 hsa rfl (by omega) (by decide) (fun σ34 h35 h36 => ?_)
              have hR := hR.nx san h36
              have hc := at_put h36 hc (cell_ne hsa hc rfl)
              have hc2 := at_put h36 hc2 (cell_ne hsa hc2 rfl)
              have hsa := h35
              refine x_goto (tgt := 95) dX1_isInRingAgain_147 (by decide) ?_
              refine x_locs (L' := [(0, .ref a), (1, .int (nI m)), (2, .ref sa), (3, .ref b2), (4, .int (nI j)), (5, .ref b3)]) [1, 2, 3, 4, 5, 6] rfl ?_
              exact ih3 (x + 1) _ _ _ _ _ (by omega) hR hc hz hk0 hn0 hc2 hsa (fun i hi => by
                unfold upd
                by_cases e : i = x
                · rw [if_pos e, e, wIx_s]
                · rw [if_neg e, hg i hi, wIx_lt e])
            · have c1 := bI_1 c1
              refine x_aload_n dX1_isInRingAgain_137 3 rfl rfl ?_
              refine x_iload dX1_isInRingAgain_138 5 rfl ?_
              refine x_iald (N := 24) (j := j) (v := (encB (wsh (edge S) j j))) dX1_isInRingAgain_140 hsa rfl (hj24) (by decide) ((hg j hj24).trans (by rw [wsh_wIx])) ?_
              refine x_goto (tgt := 145) dX1_isInRingAgain_141 (by decide) ?_
              refine x_ior dX1_isInRingAgain_145 ?_
              refine x_top (x' := (encB (wsh (edge S) (j + 1) x))) (wsh_yes c1) ?_
              refine x_iast (N := 24) (j := x) (w := (encB (wsh (edge S) (j + 1) x))) dX1_isInRingAgain_146 hsa rfl (by omega) (by decide) (fun σ37 h38 h39 => ?_)
              have hR := hR.nx san h39
              have hc := at_put h39 hc (cell_ne hsa hc rfl)
              have hc2 := at_put h39 hc2 (cell_ne hsa hc2 rfl)
              have hsa := h38
              refine x_goto (tgt := 95) dX1_isInRingAgain_147 (by decide) ?_
              refine x_locs (L' := [(0, .ref a), (1, .int (nI m)), (2, .ref sa), (3, .ref b2), (4, .int (nI j)), (5, .ref b3)]) [1, 2, 3, 4, 5, 6] rfl ?_
              exact ih3 (x + 1) _ _ _ _ _ (by omega) hR hc hz hk0 hn0 hc2 hsa (fun i hi => by
                unfold upd
                by_cases e : i = x
                · rw [if_pos e, e, wIx_s]
                · rw [if_neg e, hg i hi, wIx_lt e])
          · have hf : tH S x = false := by cases h : tH S x; rfl; exact absurd h ht
            exact ih3 (x + 1) _ _ _ _ _ (by omega) hR hc (hz.stepF hf) hk0 hn0 hc2 hsa (fun i hi => by
              by_cases e : i = x
              · subst e; rw [hg i hi, wIx_x, wIx_s]; exact congrArg encB (wsh_idle hI hf)
              · rw [hg i hi, wIx_lt e])
      · have htf : tH S j = false := by cases h : tH S j; rfl; exact absurd h ht
        have hk1 : c2T S 2 j + su (c2T S 2) (j + 1) d2 ≤ k := hk0
        have hn1 : c2T S 3 j + su (c2T S 3) (j + 1) d2 ≤ n := hn0
        exact ih2 (j + 1) _ _ _ _ _ (by omega) hR hc (hz.stepF htf) (by omega) (by omega) hsa (fun i hi => by rw [hf i hi, wsh_skip (edge_idle hI htf)])
  | succ d ih =>
    intro j τ z k n f hj hR hc hz hk0 hn0 hsa hf
    have hL := hL0.ro hR
    have ho := hL.o
    by_cases ht : tH S j = true
    · have hjC := hI.th ht
      have hC := hI.c
      have hfj : (decide (j ≤ j) && tH S j) = true := by rw [ht]; simp
      have hlo : ∀ i, i < j → (decide (j ≤ i) && tH S i) = false := fun i hi => by rw [decide_eq_false (by omega)]; rfl
      have hzn : z ≠ 0 := fun e => by have := hz.zero_iff.mp e j (by omega); rw [hfj] at this; cases this
      refine x_aload_n dX1_isInRingAgain_15 3 rfl rfl ?_
      refine x_callF dX1_isInRingAgain_16 (con_X6_hasNext hc) (lw_F q509 q513 q515 q121 q517) q511 q510 q516 q514 q512 (np := 0) (by decide +kernel) rfl vC_6 hc ⟨Nat.le_of_ble_eq_true rfl, Nat.le_of_ble_eq_true rfl⟩ (Nat.le_of_ble_eq_true rfl) rfl (Nat.zero_le _) (Nat.zero_le _) (rS ?_) nI'
      refine x_top (x' := 1) (by rw [decide_eq_true hzn]; rfl) ?_
      refine x_if_eq (tgt := 51) dX1_isInRingAgain_21 (by decide) (fun h_ => absurd h_ (by decide)) (fun _ => ?_)
      refine x_aload_n dX1_isInRingAgain_24 3 rfl rfl ?_
      refine x_callF dX1_isInRingAgain_25 (con_X6_next hc hz (by omega) hfj hlo) (lw_F q555 q558 q560 q121 q562) q557 q556 q561 q559 q512 (np := 0) (by decide +kernel) rfl vC_6 hc ⟨Nat.le_of_ble_eq_true rfl, Nat.le_of_ble_eq_true rfl⟩ (Nat.le_of_ble_eq_true rfl) rfl (Nat.zero_le _) (Nat.zero_le _) (rA fun u σ42 h41 => ?_) nA'
      obtain ⟨rfl, hc, hbu⟩ := h41
      have hR := hR.nx bn hbu
      have hL := hL0.ro hR
      have ho := hL.o
      have hz := BS.stepT hz (by omega) hfj hlo
      refine x_ckcast dX1_isInRingAgain_30 q1211 (bx_rc (by omega)) ?_
      refine x_callV dX1_isInRingAgain_33 (con_J20_intValue (n := j) (by omega)) (lw_V q1212 q1213 q1214 q110 q1215) (np := 0) (by decide +kernel) rfl (bx_rc (by omega)) ⟨Nat.le_of_ble_eq_true rfl, Nat.le_of_ble_eq_true rfl⟩ (Nat.le_of_ble_eq_true rfl) rfl (Nat.zero_le _) (Nat.zero_le _) (rS ?_) nI'
      have hsa := at_put hbu hsa n_sa_b
      have hcj : cW S j = wC S j := if_pos ht
      have hk1 : cW S j + su (cW S) (j + 1) d + 18 ≤ k := hk0
      have hn1 : 5 * cW S j + su (fun i => 5 * cW S i) (j + 1) d + 27 ≤ n := hn0
      refine x_istore (i := 4) (L' := [(4, .int (nI j)), (0, .ref a), (1, .int (nI m)), (2, .ref sa), (3, .ref b)]) dX1_isInRingAgain_36 (by decide) rfl ?_
      refine x_aload_n dX1_isInRingAgain_38 3 rfl rfl ?_
      refine x_iload dX1_isInRingAgain_39 0 rfl ?_
      refine x_aload_n dX1_isInRingAgain_41 1 rfl rfl ?_
      refine x_iload dX1_isInRingAgain_42 0 rfl ?_
      refine x_callV dX1_isInRingAgain_44 (con_X1_waitsForWhom hL hI (m := j) (by omega)) (lw_V q1220 q1221 q1222 q86 q1223) (np := 1) (by decide +kernel) rfl (rcv_of vC_1 ho) ⟨Nat.le_of_ble_eq_true rfl, Nat.le_of_ble_eq_true rfl⟩ (Nat.le_of_ble_eq_true rfl) rfl (by omega) (by omega) (rP fun σ44 hR3 => ?_) nI'
      have hsa := hR3 _ _ hsa
      have hc := hR3 _ _ hc
      have hR := hR.tr hR3
      refine x_iast (N := 24) (j := j) (w := (encB (edge S j))) dX1_isInRingAgain_47 hsa rfl (by omega) (by decide) (fun σ45 h46 h47 => ?_)
      have hR := hR.nx san h47
      have hc := at_put h47 hc (cell_ne hsa hc rfl)
      have hsa := h46
      refine x_goto (tgt := 15) dX1_isInRingAgain_48 (by decide) ?_
      refine x_locs (L' := [(0, .ref a), (1, .int (nI m)), (2, .ref sa), (3, .ref b)]) [1, 2, 3, 4] rfl ?_
      exact ih (j + 1) _ _ _ _ _ (by omega) hR hc hz (by omega) (by omega) hsa (fun i hi => by
        unfold upd
        by_cases e : i = j
        · rw [if_pos e, e, ws1_s]
        · rw [if_neg e, hf i hi, ws1_n e])
    · have htf : tH S j = false := by cases h : tH S j; rfl; exact absurd h ht
      have hk1 : cW S j + su (cW S) (j + 1) d + 18 ≤ k := hk0
      have hn1 : 5 * cW S j + su (fun i => 5 * cW S i) (j + 1) d + 27 ≤ n := hn0
      exact ih (j + 1) _ _ _ _ _ (by omega) hR hc (hz.stepF htf) (by omega) (by omega) hsa (fun i hi => by rw [hf i hi, ws1_f (edge_idle hI htf)])
def chC : Nat → AS → Nat → Nat
  | 0, _, _ => 0
  | f + 1, S, m => wC S m + 2 + sm (fun o => if edge S m o = true then chC f S o else 0) 24
set_option maxHeartbeats 4000000 in
set_option maxRecDepth 100000 in
theorem con_X1_chain {l : Launch} {G : YG} {σ : AH} {a : Nat} {ad : Nat → Nat} {N : Nat → NL} {mc : Nat → Int32} {S : AS} {f m : Nat} (hL : LD σ a ad N mc S) (hI : IV S) (hA : NoRing S) (hf2 : f ≤ 25) (hm : m < nC S) (hf : rk S m < f) : Con l yX1_chain cX1_chain 6 (some FieldType.int) G (12 + f) (chC f S m) (5 * chC f S m) [.ref a, .int (nI m)] σ (PRO σ (nI (chN f S m))) := by
  induction f generalizing m σ with
  | zero => exact absurd hf (Nat.not_lt_zero _)
  | succ f ih =>
    refine con_of (by decide) (Nat.le_of_ble_eq_true rfl) ?_
    refine x_locs (L' := [(0, .ref a), (1, .int (nI m))]) [0, 1] rfl ?_
    have ho := hL.o
    have hL0 := hL
    have hC := hI.c
    have hm24 : m < 24 := by omega
    obtain ⟨F, hF⟩ : ∃ F : Nat → Nat, F = fun o => if edge S m o then chN f S o else 0 := ⟨_, rfl⟩
    obtain ⟨Q, hQ⟩ : ∃ Q : Nat → Nat, Q = fun o => if edge S m o = true then chC f S o else 0 := ⟨_, rfl⟩
    have hcc : chC (f + 1) S m = wC S m + 2 + sm Q 24 := by rw [hQ]; rfl
    have hsu := su_24 (c := Q)
    have hsu5 := su_t5 (c := Q) 24 0
    have hwc := wC_le (S := S) (m := m)
    have hch : chN (f + 1) S m = mx F (nC S) + 1 := by rw [hF]; rfl
    have hF0 : ∀ o, nC S ≤ o → F o = 0 := fun o ho => by
      rw [hF]
      by_cases e : edge S m o = true
      · exact absurd (edge_lt hI e) (by omega)
      · simp only [e]; rfl
    have hmx : mx F 24 = mx F (nC S) := by
      have key : ∀ n, nC S ≤ n → mx F n = mx F (nC S) := by
        intro n
        induction n with
        | zero => intro h; rw [Nat.le_zero.mp h]
        | succ n ihn =>
          intro h
          by_cases e : n + 1 = nC S
          · rw [e]
          · show Nat.max (mx F n) (F n) = _
            rw [ihn (by omega), hF0 n (by omega)]; exact Nat.max_eq_left (Nat.zero_le _)
      exact key 24 hC
    have hFl : ∀ n, mx F n ≤ f := fun n => mx_le.mpr (fun o _ => by
      rw [hF]
      by_cases e : edge S m o = true
      · simp only [e, if_true]; exact chN_le f o
      · simp only [e]; exact Nat.zero_le _)
    refine x_iconst (v := nI 0) dX1_chain_0 (by decide) ?_
    refine x_istore_n (i := 2) (L' := [(2, .int (nI 0)), (0, .ref a), (1, .int (nI m))]) dX1_chain_1 rfl (by decide) rfl ?_
    refine x_aload_n dX1_chain_2 1 rfl rfl ?_
    refine x_iload_n dX1_chain_3 2 rfl rfl ?_
    refine x_callV dX1_chain_4 (con_X1_waitsForWhom hL hI hm24) (lw_V q1220 q1221 q1222 q86 q1223) (np := 1) (by decide +kernel) rfl (rcv_of vC_1 ho) ⟨by show _ ≤ (yroom (12 + (f + 1)) (chC (f + 1) S m) (5 * chC (f + 1) S m)).frames; unfold yroom; simp only; omega, by show _ ≤ (yroom (12 + (f + 1)) (chC (f + 1) S m) (5 * chC (f + 1) S m)).locals; unfold yroom; simp only; omega⟩ (Nat.le_of_ble_eq_true rfl) rfl (by omega) (by omega) (rP fun σ1 hR => ?_) nI'
    have hL := hL.ro (hR)
    have ho := hL.o
    refine x_istore_n (i := 3) (L' := [(3, .int (encB (edge S m))), (2, .int (nI 0)), (0, .ref a), (1, .int (nI m))]) dX1_chain_7 rfl (by decide) rfl ?_
    refine x_aload_n dX1_chain_8 2 rfl rfl ?_
    refine x_callV dX1_chain_9 (con_X1_maids hL) (lw_V q1130 q1131 q1132 q86 q1133) (np := 0) (by decide +kernel) rfl (rcv_of vC_1 ho) ⟨by show _ ≤ (yroom (12 + (f + 1)) (chC (f + 1) S m) (5 * chC (f + 1) S m)).frames; unfold yroom; simp only; omega, by show _ ≤ (yroom (12 + (f + 1)) (chC (f + 1) S m) (5 * chC (f + 1) S m)).locals; unfold yroom; simp only; omega⟩ (Nat.le_of_ble_eq_true rfl) rfl (by omega) (by omega) (rA fun it3 σ4 hm2 => ?_) nA'
    obtain ⟨it3n, it3c, it3u⟩ := hm2
    have hL := hL.ro (ro_new it3n it3u)
    have ho := hL.o
    refine x_callF dX1_chain_12 (con_X5_iterator it3c) (lw_F q1148 q1152 q1154 q120 q1156) q1150 q1149 q1155 q1153 q1151 (np := 0) (by decide +kernel) rfl vC_5 it3c ⟨by show _ ≤ (yroom (12 + (f + 1)) (chC (f + 1) S m) (5 * chC (f + 1) S m)).frames; unfold yroom; simp only; omega, by show _ ≤ (yroom (12 + (f + 1)) (chC (f + 1) S m) (5 * chC (f + 1) S m)).locals; unfold yroom; simp only; omega⟩ (Nat.le_of_ble_eq_true rfl) rfl (by omega) (by omega) (rA fun b σ6 hm5 => ?_) nA'
    obtain ⟨bn0, bc, bu⟩ := hm5
    have hL := hL.ro (ro_new bn0 bu)
    have ho := hL.o
    have bn : σ b = none := ((hR).tr (ro_new it3n it3u)).nn bn0
    have hRb := ((hR).tr (ro_new it3n it3u)).tr (ro_new bn0 bu)
    refine x_astore (i := 4) (L' := [(4, .ref b), (3, .int (encB (edge S m))), (2, .int (nI 0)), (0, .ref a), (1, .int (nI m))]) dX1_chain_17 (by decide) rfl ?_
    refine x_locs (L' := [(0, .ref a), (1, .int (nI m)), (2, .int (nI 0)), (3, .int (encB (edge S m))), (4, .ref b)]) [3, 4, 2, 1, 0] rfl ?_
    suffices loop : ∀ (d j : Nat) (τ : AH) (z : Int32) (k n : Nat), j + d = 24 → RO σ τ → τ b = some (.inr (6, [.int z])) → BS z (fun i => decide (j ≤ i) && tH S i) → su Q j d ≤ k → su (fun i => 5 * Q i) j d ≤ n → X l yX1_chain cX1_chain 6 (some FieldType.int) [] G (yroom (12 + (f + 1)) (chC (f + 1) S m) (5 * chC (f + 1) S m)) (yEnd G (yroom (12 + (f + 1)) (chC (f + 1) S m) (5 * chC (f + 1) S m)) (PRO σ (nI (chN (f + 1) S m)))) 19 [(0, .ref a), (1, .int (nI m)), (2, .int (nI (mx F j))), (3, .int (encB (edge S m))), (4, .ref b)] [] τ k n from loop 24 0 _ _ _ _ (Nat.zero_add _) (hRb) bc (encB_BS _) (by omega) (by omega)
    intro d
    induction d with
    | zero =>
      intro j τ z k n hj hR hc hz hk0 hn0
      have hL := hL0.ro hR
      have ho := hL.o
      have hj24 : j = 24 := by omega
      subst hj24
      have hz0 : z = 0 := hz.zero_iff.mpr (fun i hi => by rw [decide_eq_false (by omega)]; rfl)
      refine x_aload dX1_chain_19 4 rfl ?_
      refine x_callF dX1_chain_21 (con_X6_hasNext hc) (lw_F q509 q513 q515 q121 q517) q511 q510 q516 q514 q512 (np := 0) (by decide +kernel) rfl vC_6 hc ⟨by show _ ≤ (yroom (12 + (f + 1)) (chC (f + 1) S m) (5 * chC (f + 1) S m)).frames; unfold yroom; simp only; omega, by show _ ≤ (yroom (12 + (f + 1)) (chC (f + 1) S m) (5 * chC (f + 1) S m)).locals; unfold yroom; simp only; omega⟩ (Nat.le_of_ble_eq_true rfl) rfl (Nat.zero_le _) (Nat.zero_le _) (rS ?_) nI'
      refine x_top (x' := 0) (by rw [hz0]; rfl) ?_
      refine x_if_eq (tgt := 71) dX1_chain_26 (by decide) (fun _ => ?_) (fun h_ => absurd (rfl) h_)
      refine x_iload_n dX1_chain_71 2 rfl rfl ?_
      refine x_iconst (v := nI 1) dX1_chain_72 (by decide) ?_
      refine x_iadd dX1_chain_73 ?_
      refine x_top (x' := nI (mx F 24 + 1)) (nI_add _ _) ?_
      exact x_iret dX1_chain_74 rfl (pRo (by rw [hch, ← hmx]) hR)
    | succ d ihd =>
      intro j τ z k n hj hR hc hz hk0 hn0
      have hL := hL0.ro hR
      have ho := hL.o
      by_cases ht : tH S j = true
      · have hjC := hI.th ht
        have hC := hI.c
        have hfj : (decide (j ≤ j) && tH S j) = true := by rw [ht]; simp
        have hlo : ∀ i, i < j → (decide (j ≤ i) && tH S i) = false := fun i hi => by rw [decide_eq_false (by omega)]; rfl
        have hzn : z ≠ 0 := fun e => by have := hz.zero_iff.mp e j (by omega); rw [hfj] at this; cases this
        have hk1 := su_le hk0
        have hn1 := su_le hn0
        refine x_aload dX1_chain_19 4 rfl ?_
        refine x_callF dX1_chain_21 (con_X6_hasNext hc) (lw_F q509 q513 q515 q121 q517) q511 q510 q516 q514 q512 (np := 0) (by decide +kernel) rfl vC_6 hc ⟨by show _ ≤ (yroom (12 + (f + 1)) (chC (f + 1) S m) (5 * chC (f + 1) S m)).frames; unfold yroom; simp only; omega, by show _ ≤ (yroom (12 + (f + 1)) (chC (f + 1) S m) (5 * chC (f + 1) S m)).locals; unfold yroom; simp only; omega⟩ (Nat.le_of_ble_eq_true rfl) rfl (Nat.zero_le _) (Nat.zero_le _) (rS ?_) nI'
        refine x_top (x' := 1) (by rw [decide_eq_true hzn]; rfl) ?_
        refine x_if_eq (tgt := 71) dX1_chain_26 (by decide) (fun h_ => absurd h_ (by decide)) (fun _ => ?_)
        refine x_aload dX1_chain_29 4 rfl ?_
        refine x_callF dX1_chain_31 (con_X6_next hc hz (by omega) hfj hlo) (lw_F q555 q558 q560 q121 q562) q557 q556 q561 q559 q512 (np := 0) (by decide +kernel) rfl vC_6 hc ⟨by show _ ≤ (yroom (12 + (f + 1)) (chC (f + 1) S m) (5 * chC (f + 1) S m)).frames; unfold yroom; simp only; omega, by show _ ≤ (yroom (12 + (f + 1)) (chC (f + 1) S m) (5 * chC (f + 1) S m)).locals; unfold yroom; simp only; omega⟩ (Nat.le_of_ble_eq_true rfl) rfl (Nat.zero_le _) (Nat.zero_le _) (rA fun u σ10 h9 => ?_) nA'
        obtain ⟨rfl, hc, hbu⟩ := h9
        have hR := hR.nx bn hbu
        have hL := hL0.ro hR
        have ho := hL.o
        have hz := BS.stepT hz (by omega) hfj hlo
        refine x_ckcast dX1_chain_36 q1211 (bx_rc (by omega)) ?_
        refine x_callV dX1_chain_39 (con_J20_intValue (n := j) (by omega)) (lw_V q1212 q1213 q1214 q110 q1215) (np := 0) (by decide +kernel) rfl (bx_rc (by omega)) ⟨by show _ ≤ (yroom (12 + (f + 1)) (chC (f + 1) S m) (5 * chC (f + 1) S m)).frames; unfold yroom; simp only; omega, by show _ ≤ (yroom (12 + (f + 1)) (chC (f + 1) S m) (5 * chC (f + 1) S m)).locals; unfold yroom; simp only; omega⟩ (Nat.le_of_ble_eq_true rfl) rfl (Nat.zero_le _) (Nat.zero_le _) (rS ?_) nI'
        have hFj : F j = if edge S m j then chN f S j else 0 := by rw [hF]
        have hQj : Q j = if edge S m j = true then chC f S j else 0 := by rw [hQ]
        have hx := hFl j
        have hn1 : 5 * Q j + su (fun i => 5 * Q i) (j + 1) d ≤ n := hn1
        refine x_istore (i := 5) (L' := [(5, .int (nI j)), (0, .ref a), (1, .int (nI m)), (2, .int (nI (mx F j))), (3, .int (encB (edge S m))), (4, .ref b)]) dX1_chain_42 (by decide) rfl ?_
        refine x_iload_n dX1_chain_44 4 rfl rfl ?_
        refine x_iload dX1_chain_45 0 rfl ?_
        refine x_callSN dX1_chain_47 (con_X0_has (encB_BS (edge S m)) (o := j) (by omega)) (lw_meth q1055) q85 q1053 q1054 (np := 2) (by decide +kernel) rfl ⟨by show _ ≤ (yroom (12 + (f + 1)) (chC (f + 1) S m) (5 * chC (f + 1) S m)).frames; unfold yroom; simp only; omega, by show _ ≤ (yroom (12 + (f + 1)) (chC (f + 1) S m) (5 * chC (f + 1) S m)).locals; unfold yroom; simp only; omega⟩ (Nat.le_of_ble_eq_true rfl) rfl (Nat.zero_le _) (Nat.zero_le _) (rS ?_) nI'
        refine x_if_eq (tgt := 66) dX1_chain_50 (by decide) (fun c1 => ?_) (fun c1 => ?_)
        · have c1 := bI_0 c1
          have hs : mx F (j + 1) = mx F j := by show Nat.max (mx F j) (F j) = _; rw [hFj, c1]; exact Nat.max_eq_left (Nat.zero_le _)
          refine x_iload_n dX1_chain_66 3 rfl rfl ?_
          refine x_istore_n (i := 2) (L' := [(2, .int (nI (mx F j))), (5, .int (nI j)), (0, .ref a), (1, .int (nI m)), (3, .int (encB (edge S m))), (4, .ref b)]) dX1_chain_67 rfl (by decide) rfl ?_
          refine x_goto (tgt := 19) dX1_chain_68 (by decide) ?_
          refine x_locs (L' := [(0, .ref a), (1, .int (nI m)), (2, .int (nI (mx F j))), (3, .int (encB (edge S m))), (4, .ref b)]) [2, 3, 0, 4, 5] rfl ?_
          rw [← hs]
          exact ihd (j + 1) _ _ _ _ (by omega) hR hc hz (by omega) (by omega)
        · have c1 := bI_1 c1
          rw [c1] at hFj hQj
          have hFj : F j = chN f S j := hFj
          have hQj : Q j = chC f S j := hQj
          have hrk := rk_lt hI hA c1
          have hcl := chN_le (S := S) f j
          have hs : mx F (j + 1) = Nat.max (mx F j) (chN f S j) := by show Nat.max (mx F j) (F j) = _; rw [hFj]
          refine x_iload_n dX1_chain_53 3 rfl rfl ?_
          refine x_aload_n dX1_chain_54 1 rfl rfl ?_
          refine x_iload dX1_chain_55 0 rfl ?_
          refine x_callV dX1_chain_57 (ih hL (m := j) (by omega) (by omega) (by omega)) (lw_V q1471 q1468 q1469 q86 q1470) (np := 1) (by decide +kernel) rfl (rcv_of vC_1 ho) ⟨by show _ ≤ (yroom (12 + (f + 1)) (chC (f + 1) S m) (5 * chC (f + 1) S m)).frames; unfold yroom; simp only; omega, by show _ ≤ (yroom (12 + (f + 1)) (chC (f + 1) S m) (5 * chC (f + 1) S m)).locals; unfold yroom; simp only; omega⟩ (Nat.le_of_ble_eq_true rfl) rfl (by omega) (by omega) (rP fun σ13 hR3 => ?_) nI'
          have hL := hL.ro (hR3)
          have ho := hL.o
          have hc := hR3 _ _ hc
          have hR := hR.tr hR3
          refine x_callS dX1_chain_60 (con_J6_max (x := mx F j) (y := chN f S j) (by omega) (by omega)) (lw_S q998 q227 q93 q228) (np := 2) (by decide +kernel) rfl ⟨by show _ ≤ (yroom (12 + (f + 1)) (chC (f + 1) S m) (5 * chC (f + 1) S m)).frames; unfold yroom; simp only; omega, by show _ ≤ (yroom (12 + (f + 1)) (chC (f + 1) S m) (5 * chC (f + 1) S m)).locals; unfold yroom; simp only; omega⟩ (Nat.le_of_ble_eq_true rfl) rfl (Nat.zero_le _) (Nat.zero_le _) (rS ?_) nI'
          refine x_goto (tgt := 67) dX1_chain_63 (by decide) ?_
          refine x_istore_n (i := 2) (L' := [(2, .int (nI (Nat.max (mx F j) (chN f S j)))), (5, .int (nI j)), (0, .ref a), (1, .int (nI m)), (3, .int (encB (edge S m))), (4, .ref b)]) dX1_chain_67 rfl (by decide) rfl ?_
          refine x_goto (tgt := 19) dX1_chain_68 (by decide) ?_
          refine x_locs (L' := [(0, .ref a), (1, .int (nI m)), (2, .int (nI (Nat.max (mx F j) (chN f S j)))), (3, .int (encB (edge S m))), (4, .ref b)]) [2, 3, 0, 4, 5] rfl ?_
          rw [← hs]
          exact ihd (j + 1) _ _ _ _ (by omega) hR hc hz (by omega) (by omega)
      · have hf : tH S j = false := by cases h : tH S j; rfl; exact absurd h ht
        have hFj : F j = 0 := by
          rw [hF]
          by_cases e : edge S m j = true
          · rw [edge_th hI e] at hf; cases hf
          · simp only [e]; rfl
        have hs : mx F (j + 1) = mx F j := by show Nat.max (mx F j) (F j) = _; rw [hFj]; exact Nat.max_eq_left (Nat.zero_le _)
        have hk1 : Q j + su Q (j + 1) d ≤ k := hk0
        have hn1 : 5 * Q j + su (fun i => 5 * Q i) (j + 1) d ≤ n := hn0
        rw [← hs]
        exact ihd (j + 1) _ _ _ _ (by omega) hR hc (hz.stepF hf) (by omega) (by omega)
