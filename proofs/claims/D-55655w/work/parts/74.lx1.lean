set_option maxRecDepth 100000
/-- the answer v; nothing old is written -/
abbrev PRO (σ : AH) (v : Int32) : YR → AH → Prop := PI fun z τ => z = v ∧ RO σ τ
theorem rP {l : Launch} {y : MethodName} {cc : ByteArray} {nL : Nat} {ret : Option FieldType} {hh : List (Nat × Nat × Nat × Nat)} {G : YG} {R : Room} {Z : YE} {L : List (Nat × Value)} {rest : List Value} {σ : AH} {v0 : Int32} {pcn k' n' : Nat} (h : ∀ τ, RO σ τ → X l y cc nL ret hh G R Z pcn L (.int v0 :: rest) τ k' n') : ∀ (v : Option Value) (τ : AH), PI (fun z τ => z = v0 ∧ RO σ τ) (.inl v) τ → X l y cc nL ret hh G R Z pcn L (v.toList ++ rest) τ k' n' := fun v τ ⟨z, e, e1, e2⟩ => by
  cases e
  subst e1
  exact h τ e2
theorem pRo {σ τ : AH} {v w : Int32} (h : w = v) (hr : RO σ τ) : PRO σ v (.inl (some (.int w))) τ := ⟨w, rfl, h, hr⟩
theorem RO.nx {σ τ υ : AH} {z : Nat} (h : RO σ τ) (hn : σ z = none) (hu : ∀ r, r ≠ z → υ r = τ r) : RO σ υ := fun q e hq => (hu q (fun w => by rw [w, hn] at hq; cases hq)).trans (h q e hq)
def su (c : Nat → Nat) : Nat → Nat → Nat
  | _, 0 => 0
  | j, d + 1 => c j + su c (j + 1) d
theorem su_le {c : Nat → Nat} {j d k : Nat} (h : su c j (d + 1) ≤ k) : c j + su c (j + 1) d ≤ k := h
theorem su_sm {c : Nat → Nat} : ∀ d j, su c j d + sm c j = sm c (j + d) := by
  intro d
  induction d with
  | zero => intro j; exact Nat.zero_add _
  | succ d ih =>
    intro j
    have := ih (j + 1)
    show c j + su c (j + 1) d + sm c j = _
    have e : sm c (j + 1) = sm c j + c j := rfl
    rw [show j + (d + 1) = j + 1 + d by omega, ← this, e]
    omega
theorem su_24 {c : Nat → Nat} : su c 0 24 = sm c 24 := by
  have := su_sm (c := c) 24 0
  have e : sm c 0 = 0 := rfl
  rw [e, Nat.add_zero, Nat.zero_add] at this
  exact this
theorem BS.stepF {z : Int32} {f : Nat → Bool} {j : Nat} (h : BS z (fun i => decide (j ≤ i) && f i)) (hf : f j = false) : BS z (fun i => decide (j + 1 ≤ i) && f i) := h.to (fun i _ => by
  by_cases e : i = j
  · subst e
    rw [hf]; simp
  · have : decide (j ≤ i) = decide (j + 1 ≤ i) := decide_eq_decide.mpr (by omega)
    rw [this])
theorem BS.stepT {z : Int32} {f : Nat → Bool} {j : Nat} (h : BS z (fun i => decide (j ≤ i) && f i)) (hj : j < 24) (hf : (decide (j ≤ j) && f j) = true) (hl : ∀ i, i < j → (decide (j ≤ i) && f i) = false) : BS (z &&& (z - nI 1)) (fun i => decide (j + 1 ≤ i) && f i) := (BS.next h hj hf hl).to (fun i _ => by
  by_cases e : i = j
  · subst e
    simp
    omega
  · have : decide (j ≤ i) = decide (j + 1 ≤ i) := decide_eq_decide.mpr (by omega)
    rw [this]
    simp [e])
theorem zret_b (b : Bool) : narrow .boolean (.int (bI b)) = .int (bI b) := bI_z b
/-- (set >> k & 1) == 1 -/
theorem BS.has {z : Int32} {f : Nat → Bool} (h : BS z f) {o : Nat} (ho : o < 24) : (z >>> (nI o &&& 31)) &&& nI 1 = nI (if f o then 1 else 0) := by
  have := h.bit ho
  rw [show nI 1 = (1 : Int32) from rfl, this]
  cases f o <;> rfl
set_option maxHeartbeats 4000000 in
set_option maxRecDepth 100000 in
theorem con_X0_isIn {l : Launch} {G : YG} {σ : AH} {v lo hi : Int32}  : Con l yX0_isIn cX0_isIn 3 (some FieldType.boolean) G 0 0 0 [.int v, .int lo, .int hi] σ (PS σ (bI (decide (lo ≤ v) && decide (v ≤ hi)))) := by
  refine con_of (by decide) (Nat.le_of_ble_eq_true rfl) ?_
  refine x_locs (L' := [(0, .int v), (1, .int lo), (2, .int hi)]) [0, 1, 2] rfl ?_
  refine x_iload_n dX0_isIn_0 0 rfl rfl ?_
  refine x_iload_n dX0_isIn_1 1 rfl rfl ?_
  refine x_icmp_lt (tgt := 14) dX0_isIn_2 (by decide) (fun c1 => ?_) (fun c1 => ?_)
  · refine x_iconst (v := nI 0) dX0_isIn_14 (by decide) ?_
    exact x_zret dX0_isIn_15 rfl (rfl) (pS' (by rw [decide_eq_false (Int32.not_le.mpr c1)]; rfl))
  · refine x_iload_n dX0_isIn_5 0 rfl rfl ?_
    refine x_iload_n dX0_isIn_6 2 rfl rfl ?_
    refine x_icmp_gt (tgt := 14) dX0_isIn_7 (by decide) (fun c2 => ?_) (fun c2 => ?_)
    · refine x_iconst (v := nI 0) dX0_isIn_14 (by decide) ?_
      exact x_zret dX0_isIn_15 rfl (rfl) (pS' (by rw [decide_eq_false (Int32.not_le.mpr c2), Bool.and_false]; rfl))
    · refine x_iconst (v := nI 1) dX0_isIn_10 (by decide) ?_
      refine x_goto (tgt := 15) dX0_isIn_11 (by decide) ?_
      exact x_zret dX0_isIn_15 rfl (rfl) (pS' (by rw [decide_eq_true (Int32.not_lt.mp c1), decide_eq_true (Int32.not_lt.mp c2)]; rfl))
set_option maxHeartbeats 4000000 in
set_option maxRecDepth 100000 in
theorem con_X0_isShelf {l : Launch} {G : YG} {σ : AH} {v : Int32}  : Con l yX0_isShelf cX0_isShelf 1 (some FieldType.boolean) G 1 0 0 [.int v] σ (PS σ (bI (isS v))) := by
  refine con_of (by decide) (Nat.le_of_ble_eq_true rfl) ?_
  refine x_locs (L' := [(0, .int v)]) [0] rfl ?_
  refine x_iload_n dX0_isShelf_0 0 rfl rfl ?_
  refine x_iconst (v := nI 0) dX0_isShelf_1 (by decide) ?_
  refine x_bipush (v := nI 7) dX0_isShelf_2 (by decide) ?_
  refine x_callS dX0_isShelf_4 (con_X0_isIn (v := v) (lo := nI 0) (hi := nI 7)) (lw_S q1059 q1051 q85 q1052) (np := 3) (by decide +kernel) rfl ⟨Nat.le_of_ble_eq_true rfl, Nat.le_of_ble_eq_true rfl⟩ (Nat.le_of_ble_eq_true rfl) rfl (by decide) (by decide) (rS ?_) nI'
  exact x_zret dX0_isShelf_7 rfl (bI_z _) (pS' rfl)
set_option maxHeartbeats 4000000 in
set_option maxRecDepth 100000 in
theorem con_X0_has {l : Launch} {G : YG} {σ : AH} {z : Int32} {f : Nat → Bool} {o : Nat} (hz : BS z f) (ho : o < 24) : Con l yX0_has cX0_has 2 (some FieldType.boolean) G 0 0 0 [.int z, .int (nI o)] σ (PS σ (bI (f o))) := by
  refine con_of (by decide) (Nat.le_of_ble_eq_true rfl) ?_
  refine x_locs (L' := [(0, .int z), (1, .int (nI o))]) [0, 1] rfl ?_
  refine x_iload_n dX0_has_0 0 rfl rfl ?_
  refine x_iload_n dX0_has_1 1 rfl rfl ?_
  refine x_ishr dX0_has_2 ?_
  refine x_iconst (v := nI 1) dX0_has_3 (by decide) ?_
  refine x_iand dX0_has_4 ?_
  refine x_top (x' := nI (if f o then 1 else 0)) (hz.has ho) ?_
  refine x_iconst (v := nI 1) dX0_has_5 (by decide) ?_
  refine x_icmp_ne (tgt := 13) dX0_has_6 (by decide) (fun c1 => ?_) (fun c1 => ?_)
  · have hf : f o = false := by
      cases h : f o with
      | false => rfl
      | true => rw [h] at c1; exact absurd rfl c1
    refine x_iconst (v := nI 0) dX0_has_13 (by decide) ?_
    exact x_zret dX0_has_14 rfl (rfl) (pS' (by rw [hf]; rfl))
  · have hf : f o = true := by
      cases h : f o with
      | true => rfl
      | false => rw [h] at c1; exact absurd c1 (by decide)
    refine x_iconst (v := nI 1) dX0_has_9 (by decide) ?_
    refine x_goto (tgt := 14) dX0_has_10 (by decide) ?_
    exact x_zret dX0_has_14 rfl (rfl) (pS' (by rw [hf]; rfl))
set_option maxHeartbeats 4000000 in
set_option maxRecDepth 100000 in
theorem con_X0_signOf {l : Launch} {G : YG} {σ : AH} {k : Nat} (hk : k = 1 ∨ k = 2) : Con l yX0_signOf cX0_signOf 1 (some FieldType.char) G 0 0 0 [.int (nI k)] σ (PS σ (nI (sgL k))) := by
  refine con_of (by decide) (Nat.le_of_ble_eq_true rfl) ?_
  refine x_locs (L' := [(0, .int (nI k))]) [0] rfl ?_
  refine x_iload_n dX0_signOf_0 0 rfl rfl ?_
  refine x_iconst (v := nI 2) dX0_signOf_1 (by decide) ?_
  refine x_icmp_ne (tgt := 10) dX0_signOf_2 (by decide) (fun c1 => ?_) (fun c1 => ?_)
  · have c1 := nNe (by omega) (by decide) c1
    have hk1 : k = 1 := by omega
    refine x_bipush (v := nI 115) dX0_signOf_10 (by decide) ?_
    exact x_zret dX0_signOf_12 rfl (by decide) (pS' (by unfold sgL; rw [if_pos hk1]))
  · have c1 := nEq (by omega) (by decide) c1
    have hk1 : ¬ k = 1 := by omega
    refine x_bipush (v := nI 120) dX0_signOf_5 (by decide) ?_
    refine x_goto (tgt := 12) dX0_signOf_7 (by decide) ?_
    exact x_zret dX0_signOf_12 rfl (by decide) (pS' (by unfold sgL; rw [if_neg hk1]))
abbrev rfE (r d : Int32) : Ent := .inr (3, [.null, .null, .null, .null, .null, .int 0, .int r, .int d])
/-- it throws a Refused -/
abbrev PT (σ : AH) (r d : Int32) : YR → AH → Prop := fun x τ => ∃ q : Nat, x = .inr ("LarderLocks$Refused", q) ∧ σ q = none ∧ τ q = some (rfE r d) ∧ RO σ τ
theorem rTn {l : Launch} {y : MethodName} {cc : ByteArray} {nL : Nat} {ret : Option FieldType} {hh : List (Nat × Nat × Nat × Nat)} {G : YG} {R : Room} {Z : YE} {L : List (Nat × Value)} {rest : List Value} {σ : AH} {r d : Int32} {pcn k' n' : Nat} : ∀ (v : Option Value) (τ : AH), (∃ q : Nat, (.inl v : YR) = .inr ("LarderLocks$Refused", q) ∧ σ q = none ∧ τ q = some (rfE r d) ∧ RO σ τ) → X l y cc nL ret hh G R Z pcn L (v.toList ++ rest) τ k' n' := fun _ _ ⟨_, e, _⟩ => by cases e
theorem PT.ro {σ τ υ : AH} {r d : Int32} {x : YR} (hr : RO σ τ) (h : PT τ r d x υ) : PT σ r d x υ := by
  obtain ⟨q, h1, h2, h3, h4⟩ := h
  exact ⟨q, h1, hr.nn h2, h3, hr.tr h4⟩
set_option maxHeartbeats 4000000 in
set_option maxRecDepth 100000 in
theorem con_X0_refuse0 {l : Launch} {G : YG} {σ : AH} {r d : Int32}  : Con l yX0_refuse cX0_refuse 3 none G 4 0 0 [.int (nI 0), .int r, .int d] σ (PSV σ) := by
  refine con_of (by decide) (Nat.le_of_ble_eq_true rfl) ?_
  refine x_locs (L' := [(0, .int (nI 0)), (1, .int r), (2, .int d)]) [0, 1, 2] rfl ?_
  refine x_iload_n dX0_refuse_0 0 rfl rfl ?_
  refine x_if_eq (tgt := 14) dX0_refuse_1 (by decide) (fun _ => ?_) (fun h_ => absurd (rfl) h_)
  exact x_vret dX0_refuse_14 rfl (⟨rfl, rfl⟩)
set_option maxHeartbeats 4000000 in
set_option maxRecDepth 100000 in
theorem con_X0_refuse1 {l : Launch} {G : YG} {σ : AH} {r d : Int32}  : Con l yX0_refuse cX0_refuse 3 none G 4 1 8 [.int (nI 1), .int r, .int d] σ (PT σ r d) := by
  refine con_of (by decide) (Nat.le_of_ble_eq_true rfl) ?_
  refine x_locs (L' := [(0, .int (nI 1)), (1, .int r), (2, .int d)]) [0, 1, 2] rfl ?_
  refine x_iload_n dX0_refuse_0 0 rfl rfl ?_
  refine x_if_eq (tgt := 14) dX0_refuse_1 (by decide) (fun h_ => absurd h_ (by decide)) (fun _ => ?_)
  refine x_new (fs := [.null, .null, .null, .null, .null, .int 0, .int 0, .int 0]) dX0_refuse_4 vC_3 in_X3 tyX3_ok q400 q962 q118 rfl (by omega) (by omega) (fun q σ1 hn2 hb3 hc4 hu5 => ?_)
  refine x_dup dX0_refuse_7 rfl ?_
  refine x_iload_n dX0_refuse_8 1 rfl rfl ?_
  refine x_iload_n dX0_refuse_9 2 rfl rfl ?_
  refine x_callI dX0_refuse_10 (con_X3_init hc4) (lw_meth q972) q118 q970 q971 rfl (np := 2) (by decide +kernel) rfl ⟨Nat.le_of_ble_eq_true rfl, Nat.le_of_ble_eq_true rfl⟩ (Nat.le_of_ble_eq_true rfl) rfl (Nat.zero_le _) (Nat.zero_le _) (rV fun σ6 h1 => ?_) nV'
  obtain ⟨h1a, h1b⟩ := h1
  have hro : RO σ σ6 := RO.nx (ro_new hn2 hu5) hn2 h1b
  exact x_athrow dX0_refuse_13 vC_3 h1a (xt_out (fun z hz => by cases hz) ⟨_, rfl, hn2, h1a, hro⟩)
set_option maxHeartbeats 4000000 in
set_option maxRecDepth 100000 in
theorem con_X1_isThere {l : Launch} {G : YG} {σ : AH} {a : Nat} {ad : Nat → Nat} {N : Nat → NL} {mc : Nat → Int32} {S : AS} {v : Int32} (hL : LD σ a ad N mc S) (hI : IV S) : Con l yX1_isThere cX1_isThere 2 (some FieldType.boolean) G 1 0 0 [.ref a, .int v] σ (PS σ (bI (isT S v))) := by
  refine con_of (by decide) (Nat.le_of_ble_eq_true rfl) ?_
  refine x_locs (L' := [(0, .ref a), (1, .int v)]) [0, 1] rfl ?_
  have ho := hL.o
  have hC := hI.c
  refine x_iload_n dX1_isThere_0 1 rfl rfl ?_
  refine x_iconst (v := nI 0) dX1_isThere_1 (by decide) ?_
  refine x_aload_n dX1_isThere_2 0 rfl rfl ?_
  refine x_get dX1_isThere_3 vC_1 in_X1 ho 8 (by decide) q290 rfl ?_
  refine x_iconst (v := nI 1) dX1_isThere_6 (by decide) ?_
  refine x_isub dX1_isThere_7 ?_
  refine x_callSN dX1_isThere_8 (con_X0_isIn (v := v) (lo := nI 0) (hi := nI (nC S) - nI 1)) (lw_meth q1052) q85 q1050 q1051 (np := 3) (by decide +kernel) rfl ⟨Nat.le_of_ble_eq_true rfl, Nat.le_of_ble_eq_true rfl⟩ (Nat.le_of_ble_eq_true rfl) rfl (by decide) (by decide) (rS ?_) nI'
  refine x_top (x' := bI (decide (0 ≤ v) && decide (v < nI (nC S)))) (by rw [le_pred (by omega)]; rfl) ?_
  refine x_if_eq (tgt := 29) dX1_isThere_11 (by decide) (fun c1 => ?_) (fun c1 => ?_)
  · have c1 := bI_0 c1
    refine x_iconst (v := nI 0) dX1_isThere_29 (by decide) ?_
    exact x_zret dX1_isThere_30 rfl (rfl) (pS' (by unfold isT; rw [c1]; rfl))
  · have c1 := bI_1 c1
    have c2 := c1
    simp only [Bool.and_eq_true, decide_eq_true_eq] at c2
    obtain ⟨m, hm, rfl, hvm⟩ := i32_of c2.1 c2.2 (by omega)
    have hT : isT S (nI m) = tH S m := by unfold isT; rw [c1, hvm]; rfl
    refine x_aload_n dX1_isThere_14 0 rfl rfl ?_
    refine x_get dX1_isThere_15 vC_1 in_X1 ho 7 (by decide) q289 rfl ?_
    refine x_iload_n dX1_isThere_18 1 rfl rfl ?_
    refine x_callSN dX1_isThere_19 (con_X0_has (encB_BS (tH S)) (o := m) (by omega)) (lw_meth q1055) q85 q1053 q1054 (np := 2) (by decide +kernel) rfl ⟨Nat.le_of_ble_eq_true rfl, Nat.le_of_ble_eq_true rfl⟩ (Nat.le_of_ble_eq_true rfl) rfl (by decide) (by decide) (rS ?_) nI'
    refine x_if_eq (tgt := 29) dX1_isThere_22 (by decide) (fun c3 => ?_) (fun c3 => ?_)
    · have c3 := bI_0 c3
      refine x_iconst (v := nI 0) dX1_isThere_29 (by decide) ?_
      exact x_zret dX1_isThere_30 rfl (rfl) (pS' (by rw [hT, c3]; rfl))
    · have c3 := bI_1 c3
      refine x_iconst (v := nI 1) dX1_isThere_25 (by decide) ?_
      refine x_goto (tgt := 30) dX1_isThere_26 (by decide) ?_
      exact x_zret dX1_isThere_30 rfl (rfl) (pS' (by rw [hT, c3]; rfl))
set_option maxHeartbeats 4000000 in
set_option maxRecDepth 100000 in
theorem con_X1_many {l : Launch} {G : YG} {σ : AH} {a : Nat} {ad : Nat → Nat} {N : Nat → NL} {mc : Nat → Int32} {S : AS}  (hL : LD σ a ad N mc S)  : Con l yX1_many cX1_many 1 (some FieldType.int) G 2 0 0 [.ref a] σ (PS σ (nI (cn (tH S) 24))) := by
  refine con_of (by decide) (Nat.le_of_ble_eq_true rfl) ?_
  refine x_locs (L' := [(0, .ref a)]) [0] rfl ?_
  have ho := hL.o
  refine x_aload_n dX1_many_0 0 rfl rfl ?_
  refine x_get dX1_many_1 vC_1 in_X1 ho 7 (by decide) q289 rfl ?_
  refine x_callS dX1_many_4 (con_J20_bitCount (encB_BS (tH S))) (lw_S q953 q954 q110 q955) (np := 1) (by decide +kernel) rfl ⟨Nat.le_of_ble_eq_true rfl, Nat.le_of_ble_eq_true rfl⟩ (Nat.le_of_ble_eq_true rfl) rfl (by decide) (by decide) (rS ?_) nI'
  exact x_iret dX1_many_7 rfl (pS)
set_option maxHeartbeats 4000000 in
set_option maxRecDepth 100000 in
theorem con_X1_maids {l : Launch} {G : YG} {σ : AH} {a : Nat} {ad : Nat → Nat} {N : Nat → NL} {mc : Nat → Int32} {S : AS}  (hL : LD σ a ad N mc S)  : Con l yX1_maids cX1_maids 2 (some (FieldType.object "java/lang/Iterable")) G 2 1 2 [.ref a] σ (PA fun i τ => σ i = none ∧ τ i = some (.inr (5, [.int (encB (tH S)), .ref a])) ∧ ∀ q, q ≠ i → τ q = σ q) := by
  refine con_of (by decide) (Nat.le_of_ble_eq_true rfl) ?_
  refine x_locs (L' := [(0, .ref a)]) [0] rfl ?_
  have ho := hL.o
  refine x_aload_n dX1_maids_0 0 rfl rfl ?_
  refine x_get dX1_maids_1 vC_1 in_X1 ho 7 (by decide) q289 rfl ?_
  refine x_istore_n (i := 1) (L' := [(1, .int (encB (tH S))), (0, .ref a)]) dX1_maids_4 rfl (by decide) rfl ?_
  refine x_new (fs := [.int 0, .null]) dX1_maids_5 vC_5 in_X5 tyX5_ok q1134 q1135 q120 rfl (by omega) (by omega) (fun i σ1 hn2 hb3 hc4 hu5 => ?_)
  have ho := ro_new hn2 hu5 _ _ ho
  refine x_dup dX1_maids_8 rfl ?_
  refine x_aload_n dX1_maids_9 1 rfl rfl ?_
  refine x_iload_n dX1_maids_10 0 rfl rfl ?_
  refine x_callI dX1_maids_11 (con_X5_init hc4) (lw_meth q1138) q120 q1136 q1137 rfl (np := 2) (by decide +kernel) rfl ⟨Nat.le_of_ble_eq_true rfl, Nat.le_of_ble_eq_true rfl⟩ (Nat.le_of_ble_eq_true rfl) rfl (Nat.zero_le _) (Nat.zero_le _) (rV fun σ6 h1 => ?_) nV'
  exact x_aret dX1_maids_14 rfl (by first | exact Or.inl ⟨_, rfl⟩ | exact Or.inr ⟨_, rfl⟩) (Or.inr ⟨_, rfl⟩) (⟨_, rfl, hn2, h1.1, fun q hq => (h1.2 q hq).trans (hu5 q hq)⟩)
set_option maxHeartbeats 4000000 in
set_option maxRecDepth 100000 in
theorem con_X1_others {l : Launch} {G : YG} {σ : AH} {a : Nat} {ad : Nat → Nat} {N : Nat → NL} {mc : Nat → Int32} {S : AS} {s m : Nat} {v : Int32} (hL : LD σ a ad N mc S) (hI : IV S) (hs : s < 8) (hv : ∀ o, o < 24 → (nI o = v ↔ o = m)) : Con l yX1_others cX1_others 5 (some FieldType.int) G 1 0 0 [.ref a, .int (nI s), .int v] σ (PS σ (nI (oth S s m))) := by
  refine con_of (by decide) (Nat.le_of_ble_eq_true rfl) ?_
  refine x_locs (L' := [(0, .ref a), (1, .int (nI s)), (2, .int v)]) [0, 1, 2] rfl ?_
  have ho := hL.o
  have hC := hI.c
  have hmx : ∀ n, mx (fun o => if o = m then 0 else hw S o s) n ≤ 2 := fun n => mx_le.mpr (fun o _ => by have := hI.2.2.1 o s; show (if o = m then 0 else hw S o s) ≤ 2; split <;> omega)
  refine x_iconst (v := nI 0) dX1_others_0 (by decide) ?_
  refine x_istore_n (i := 3) (L' := [(3, .int (nI 0)), (0, .ref a), (1, .int (nI s)), (2, .int v)]) dX1_others_1 rfl (by decide) rfl ?_
  refine x_iconst (v := nI 0) dX1_others_2 (by decide) ?_
  refine x_istore (i := 4) (L' := [(4, .int (nI 0)), (3, .int (nI 0)), (0, .ref a), (1, .int (nI s)), (2, .int v)]) dX1_others_3 (by decide) rfl ?_
  refine x_locs (L' := [(0, .ref a), (1, .int (nI s)), (2, .int v), (3, .int (nI 0)), (4, .int (nI 0))]) [2, 3, 4, 1, 0] rfl ?_
  suffices loop : ∀ (d i : Nat), i + d = nC S → X l yX1_others cX1_others 5 (some FieldType.int) [] G (yroom 1 0 0) (yEnd G (yroom 1 0 0) (PS σ (nI (oth S s m)))) 5 [(0, .ref a), (1, .int (nI s)), (2, .int v), (3, .int (nI (mx (fun o => if o = m then 0 else hw S o s) i))), (4, .int (nI i))] [] σ 0 0 from loop (nC S) 0 (Nat.zero_add _)
  intro d
  induction d with
  | zero =>
    intro i hi
    have hin : i = nC S := by omega
    subst hin
    refine x_iload dX1_others_5 4 rfl ?_
    refine x_aload_n dX1_others_7 0 rfl rfl ?_
    refine x_get dX1_others_8 vC_1 in_X1 ho 8 (by decide) q290 rfl ?_
    refine x_icmp_ge (tgt := 44) dX1_others_11 (by decide) (fun _ => ?_) (fun h_ => absurd ((nI_leI (by omega) (by omega)).mpr (Nat.le_refl _)) h_)
    refine x_iload_n dX1_others_44 3 rfl rfl ?_
    exact x_iret dX1_others_45 rfl (pS' (by rfl))
  | succ d ih =>
    intro i hi
    have h2 := hI.2.2.1 i s
    have hx := hmx i
    refine x_iload dX1_others_5 4 rfl ?_
    refine x_aload_n dX1_others_7 0 rfl rfl ?_
    refine x_get dX1_others_8 vC_1 in_X1 ho 8 (by decide) q290 rfl ?_
    refine x_icmp_ge (tgt := 44) dX1_others_11 (by decide) (fun h_ => absurd h_ (fun h => absurd (nLe (by omega) (by omega) h) (by omega))) (fun _ => ?_)
    refine x_iload dX1_others_14 4 rfl ?_
    refine x_iload_n dX1_others_16 2 rfl rfl ?_
    refine x_icmp_ne (tgt := 24) dX1_others_17 (by decide) (fun c1 => ?_) (fun c1 => ?_)
    · have c1 : i ≠ m := fun e => c1 ((hv i (by omega)).mpr e)
      have hs2 : mx (fun o => if o = m then 0 else hw S o s) (i + 1) = Nat.max (mx (fun o => if o = m then 0 else hw S o s) i) (hw S i s) := by
        show Nat.max _ (if i = m then 0 else hw S i s) = _
        rw [if_neg c1]
      refine x_iload_n dX1_others_24 3 rfl rfl ?_
      refine x_aload_n dX1_others_25 0 rfl rfl ?_
      refine x_get dX1_others_26 vC_1 in_X1 ho 0 (by decide) q277 rfl ?_
      refine x_iload dX1_others_29 4 rfl ?_
      obtain ⟨fh1, hh2, hv3⟩ := hL.2.1
      refine x_aald7 (N := 24) (j := i) dX1_others_31 hh2 rfl (by omega) (by decide) (hv3 _ (by omega)) ?_
      refine x_iload_n dX1_others_32 1 rfl rfl ?_
      obtain ⟨fr4, hr5, hw6⟩ := hL.row (m := i) (by omega)
      refine x_sald (N := 8) (j := s) (v := nI (hw S i s)) dX1_others_33 hr5 rfl (hs) (by decide) (hw6 _ (hs)) ?_
      refine x_callS dX1_others_34 (con_J6_max (x := mx (fun o => if o = m then 0 else hw S o s) i) (y := hw S i s) (by omega) (by omega)) (lw_S q998 q227 q93 q228) (np := 2) (by decide +kernel) rfl ⟨Nat.le_of_ble_eq_true rfl, Nat.le_of_ble_eq_true rfl⟩ (Nat.le_of_ble_eq_true rfl) rfl (by decide) (by decide) (rS ?_) nI'
      refine x_istore_n (i := 3) (L' := [(3, .int (nI (Nat.max (mx (fun o => if o = m then 0 else hw S o s) i) (hw S i s)))), (0, .ref a), (1, .int (nI s)), (2, .int v), (4, .int (nI i))]) dX1_others_37 rfl (by decide) rfl ?_
      refine x_iinc (i := 4) (q := 4) (v := nI (i + 1)) (L' := [(4, .int (nI (i + 1))), (3, .int (nI (Nat.max (mx (fun o => if o = m then 0 else hw S o s) i) (hw S i s)))), (0, .ref a), (1, .int (nI s)), (2, .int v)]) dX1_others_38 rfl (nI_1 _) (by decide) rfl ?_
      refine x_goto (tgt := 5) dX1_others_41 (by decide) ?_
      refine x_locs (L' := [(0, .ref a), (1, .int (nI s)), (2, .int v), (3, .int (nI (Nat.max (mx (fun o => if o = m then 0 else hw S o s) i) (hw S i s)))), (4, .int (nI (i + 1)))]) [2, 3, 4, 1, 0] rfl ?_
      have := ih (i + 1) (by omega)
      rw [hs2] at this
      exact this
    · have c1 : i = m := (hv i (by omega)).mp c1
      have hs2 : mx (fun o => if o = m then 0 else hw S o s) (i + 1) = mx (fun o => if o = m then 0 else hw S o s) i := by
        show Nat.max _ (if i = m then 0 else hw S i s) = _
        rw [if_pos c1]; exact Nat.max_eq_left (Nat.zero_le _)
      refine x_iload_n dX1_others_20 3 rfl rfl ?_
      refine x_goto (tgt := 37) dX1_others_21 (by decide) ?_
      refine x_istore_n (i := 3) (L' := [(3, .int (nI (mx (fun o => if o = m then 0 else hw S o s) i))), (0, .ref a), (1, .int (nI s)), (2, .int v), (4, .int (nI i))]) dX1_others_37 rfl (by decide) rfl ?_
      refine x_iinc (i := 4) (q := 4) (v := nI (i + 1)) (L' := [(4, .int (nI (i + 1))), (3, .int (nI (mx (fun o => if o = m then 0 else hw S o s) i))), (0, .ref a), (1, .int (nI s)), (2, .int v)]) dX1_others_38 rfl (nI_1 _) (by decide) rfl ?_
      refine x_goto (tgt := 5) dX1_others_41 (by decide) ?_
      refine x_locs (L' := [(0, .ref a), (1, .int (nI s)), (2, .int v), (3, .int (nI (mx (fun o => if o = m then 0 else hw S o s) i))), (4, .int (nI (i + 1)))]) [2, 3, 4, 1, 0] rfl ?_
      have := ih (i + 1) (by omega)
      rw [hs2] at this
      exact this
theorem oth_n {m : Nat} (hm : m < 24) : ∀ o, o < 24 → (nI o = nI m ↔ o = m) := fun o ho => nI_eq (by omega) (by omega)
theorem oth_x : ∀ o, o < 24 → (nI o = (-11) ↔ o = 99) := fun o ho => ⟨fun h => absurd h ((by decide +kernel : ∀ o, o < 24 → ¬ nI o = (-11)) o ho), fun h => by omega⟩
set_option maxHeartbeats 4000000 in
set_option maxRecDepth 100000 in
theorem con_X1_canHave {l : Launch} {G : YG} {σ : AH} {a : Nat} {ad : Nat → Nat} {N : Nat → NL} {mc : Nat → Int32} {S : AS} {q ft s : Nat} {w : Wi}  (hL : LD σ a ad N mc S) (hI : IV S) (hs : s < 8) (hq : σ q = some (wiE w)) (hf : FT σ ft) (hk : w.2.1 < 3) (hm : w.1 < 24) : Con l yX1_canHave cX1_canHave 4 (some FieldType.boolean) G 4 0 0 [.ref a, .int (nI s), .ref q, .ref ft] σ (PS σ (bI (canB S s w.1 w.2.1))) := by
  refine con_of (by decide) (Nat.le_of_ble_eq_true rfl) ?_
  refine x_locs (L' := [(0, .ref a), (1, .int (nI s)), (2, .ref q), (3, .ref ft)]) [0, 1, 2, 3] rfl ?_
  have ho := hL.o
  have hmx : oth S s w.1 ≤ 2 := mx_le.mpr (fun o _ => by have := hI.2.2.1 o s; show (if o = w.1 then 0 else hw S o s) ≤ 2; split <;> omega)
  obtain ⟨f, hft, hfk⟩ := hf
  obtain ⟨b, hfb, hb⟩ := hfk w.2.1 hk
  refine x_aload_n dX1_canHave_0 3 rfl rfl ?_
  refine x_aload_n dX1_canHave_1 2 rfl rfl ?_
  refine x_getN dX1_canHave_2 vC_4 in_X4 hq 1 (by decide) q1081 rfl ?_
  refine x_aald6 (N := 3) (j := w.2.1) dX1_canHave_5 hft rfl hk (by decide) hfb ?_
  refine x_aload_n dX1_canHave_6 0 rfl rfl ?_
  refine x_iload_n dX1_canHave_7 1 rfl rfl ?_
  refine x_aload_n dX1_canHave_8 2 rfl rfl ?_
  refine x_getN dX1_canHave_9 vC_4 in_X4 hq 0 (by decide) q1078 rfl ?_
  refine x_callV dX1_canHave_12 (con_X1_others hL hI hs (oth_n hm)) (lw_V q1102 q1104 qs16 q86 q1105) (np := 2) (by decide +kernel) rfl (rcv_of vC_1 ho) ⟨Nat.le_of_ble_eq_true rfl, Nat.le_of_ble_eq_true rfl⟩ (Nat.le_of_ble_eq_true rfl) rfl (by decide) (by decide) (rS ?_) nI'
  refine x_lamCall (kd := w.2.1) (x := oth S s w.1) dX1_canHave_15 q1107 hb hk (by omega) ⟨Nat.le_of_ble_eq_true rfl, Nat.le_of_ble_eq_true rfl⟩ (by decide) ?_
  exact x_zret dX1_canHave_20 rfl (bI_z _) (pS' (by unfold canB; rfl))
theorem i2s_lt {k : Nat} (h : k < 3) : (nI k).toInt16.toInt32 = nI k := (by decide +kernel : ∀ k, k < 3 → (nI k).toInt16.toInt32 = nI k) k h
theorem nar_s {k : Nat} (h : k < 3) : vp_nar .short (nI k) = nI k := (by decide +kernel : ∀ k, k < 3 → vp_nar .short (nI k) = nI k) k h
theorem updF {f : Nat → Int32} {g : Nat → Nat} {i v n j : Nat} (h : ∀ j, j < n → f j = nI (g j)) (hj : j < n) : upd f i (nI v) j = nI (fset g i v j) := by
  unfold upd fset
  split
  · rfl
  · exact h j hj
set_option maxHeartbeats 4000000 in
set_option maxRecDepth 100000 in
theorem con_X1_gives {l : Launch} {G : YG} {σ : AH} {a : Nat} {ad : Nat → Nat} {N : Nat → NL} {mc : Nat → Int32} {S : AS} {q s : Nat} {w : Wi}  (hL : LD σ a ad N mc S) (hs : s < 8) (hq : σ q = some (wiE w)) (hk : w.2.1 < 3) (hm : w.1 < 24) : Con l yX1_gives cX1_gives 3 none G 1 0 0 [.ref a, .int (nI s), .ref q] σ (PV fun τ => PL a ad N σ (giveW S s w) τ) := by
  refine con_of (by decide) (Nat.le_of_ble_eq_true rfl) ?_
  refine x_locs (L' := [(0, .ref a), (1, .int (nI s)), (2, .ref q)]) [0, 1, 2] rfl ?_
  have ho := hL.o
  refine x_aload_n dX1_gives_0 0 rfl rfl ?_
  refine x_get dX1_gives_1 vC_1 in_X1 ho 0 (by decide) q277 rfl ?_
  refine x_aload_n dX1_gives_4 2 rfl rfl ?_
  refine x_getN dX1_gives_5 vC_4 in_X4 hq 0 (by decide) q1078 rfl ?_
  obtain ⟨fh1, hh2, hv3⟩ := hL.2.1
  refine x_aald7 (N := 24) (j := w.1) dX1_gives_8 hh2 rfl (hm) (by decide) (hv3 _ (hm)) ?_
  refine x_iload_n dX1_gives_9 1 rfl rfl ?_
  refine x_aload_n dX1_gives_10 2 rfl rfl ?_
  refine x_getN dX1_gives_11 vC_4 in_X4 hq 1 (by decide) q1081 rfl ?_
  refine x_i2s (v := nI w.2.1) dX1_gives_14 (i2s_lt hk) ?_
  obtain ⟨fr4, hr5, hw6⟩ := hL.row (m := w.1) (hm)
  refine x_sast (N := 8) (j := s) (w := nI w.2.1) dX1_gives_15 hr5 rfl (hs) (by decide) (nar_s hk) (fun σ7 h8 h9 => ?_)
  obtain ⟨N10, mc11, hL, hF, hQ⟩ : PL a ad N σ (sHw S (fset (hw S) w.1 (fset (hw S w.1) s w.2.1))) σ7 := PL.tr Fr.rf (fun _ hq => Or.inl hq) (PL.how hL (m := w.1) (hm) h8 h9 (fun j hj => by
      show upd _ _ _ j = nI (fset (hw S) w.1 (fset (hw S w.1) s w.2.1) w.1 j)
      rw [fset_s]
      unfold upd fset
      split
      · rfl
      · exact hw6 j hj) (fun m' _ hn => fset_n hn) ⟨rfl, rfl⟩ rfl (fun i hi => rfl))
  have ho := hL.o
  have hq1 := hF.2.2 _ _ hq rfl
  refine x_aload_n dX1_gives_16 0 rfl rfl ?_
  refine x_get dX1_gives_17 vC_1 in_X1 ho 4 (by decide) q285 rfl ?_
  refine x_aload_n dX1_gives_20 2 rfl rfl ?_
  refine x_getN dX1_gives_21 vC_4 in_X4 hq1 0 (by decide) q1078 rfl ?_
  refine x_dup2_11 dX1_gives_24 rfl rfl ?_
  obtain ⟨fa12, ha13, hv14⟩ := hL.arr (i := 2) (by decide)
  refine x_iald (N := 24) (j := w.1) (v := nI (gT S w.1)) dX1_gives_25 ha13 rfl (hm) (by decide) (hv14 _ (hm)) ?_
  refine x_iconst (v := nI 1) dX1_gives_26 (by decide) ?_
  refine x_iadd dX1_gives_27 ?_
  refine x_top (x' := nI (gT S w.1 + 1)) (nI_add _ _) ?_
  obtain ⟨fa15, ha16, hv17⟩ := hL.arr (i := 2) (by decide)
  refine x_iast (N := 24) (j := w.1) (w := nI (gT S w.1 + 1)) dX1_gives_28 ha16 rfl (hm) (by decide) (fun σ18 h19 h20 => ?_)
  obtain ⟨N21, mc22, hL, hF, hQ⟩ : PL a ad N σ (sGT (sHw S (fset (hw S) w.1 (fset (hw S w.1) s w.2.1))) (fset (gT S) w.1 (gT S w.1 + 1))) σ18 := PL.tr hF hQ (PL.arr hL (i := 2) (by decide) h19 h20 (fun j hj => updF hv17 hj) rfl ⟨rfl, rfl⟩ rfl (fun i' hi' hn => match i', hi', hn with | 0, _, hn => (by first | rfl | exact absurd rfl hn) | 1, _, hn => (by first | rfl | exact absurd rfl hn) | 2, _, hn => (by first | rfl | exact absurd rfl hn) | 3, _, hn => (by first | rfl | exact absurd rfl hn) | 4, _, hn => (by first | rfl | exact absurd rfl hn)))
  have ho := hL.o
  refine x_aload_n dX1_gives_29 0 rfl rfl ?_
  refine x_get dX1_gives_30 vC_1 in_X1 ho 5 (by decide) q286 rfl ?_
  refine x_iload_n dX1_gives_33 1 rfl rfl ?_
  refine x_dup2_11 dX1_gives_34 rfl rfl ?_
  obtain ⟨fa23, ha24, hv25⟩ := hL.arr (i := 3) (by decide)
  refine x_iald (N := 8) (j := s) (v := nI (gN S s)) dX1_gives_35 ha24 rfl (hs) (by decide) (hv25 _ (hs)) ?_
  refine x_iconst (v := nI 1) dX1_gives_36 (by decide) ?_
  refine x_iadd dX1_gives_37 ?_
  refine x_top (x' := nI (gN S s + 1)) (nI_add _ _) ?_
  obtain ⟨fa26, ha27, hv28⟩ := hL.arr (i := 3) (by decide)
  refine x_iast (N := 8) (j := s) (w := nI (gN S s + 1)) dX1_gives_38 ha27 rfl (hs) (by decide) (fun σ29 h30 h31 => ?_)
  obtain ⟨N32, mc33, hL, hF, hQ⟩ : PL a ad N σ (giveW S s w) σ29 := PL.tr hF hQ (PL.arr hL (i := 3) (by decide) h30 h31 (fun j hj => updF hv28 hj) rfl ⟨rfl, rfl⟩ rfl (fun i' hi' hn => match i', hi', hn with | 0, _, hn => (by first | rfl | exact absurd rfl hn) | 1, _, hn => (by first | rfl | exact absurd rfl hn) | 2, _, hn => (by first | rfl | exact absurd rfl hn) | 3, _, hn => (by first | rfl | exact absurd rfl hn) | 4, _, hn => (by first | rfl | exact absurd rfl hn)))
  have ho := hL.o
  exact x_vret dX1_gives_39 rfl (⟨rfl, ⟨_, _, hL, hF, hQ⟩⟩)
theorem WR.tail {σ τ : AH} {ns : NL} {w : Wi} {r r' : List Wi} {W : Nat → Prop} (h : WR σ ns r) (hf : Fr W σ τ) (hq : r = w :: r') : WR τ (ns.eraseIdx 0) r' := by
  subst hq
  obtain ⟨h1, h2⟩ := h
  have hl : 0 < ns.length := by rw [h1]; exact Nat.zero_lt_succ _
  refine ⟨?_, fun i x v hx hv => ?_⟩
  · rw [List.length_eraseIdx_of_lt hl, h1]; rfl
  · rw [List.getElem?_eraseIdx, if_neg (Nat.not_lt_zero i)] at hx
    exact hf.2.2 _ _ (h2 (i + 1) x v hx hv) rfl
set_option maxHeartbeats 4000000 in
set_option maxRecDepth 100000 in
theorem con_X1_serves {l : Launch} {G : YG} {σ : AH} {a : Nat} {ad : Nat → Nat} {N : Nat → NL} {mc : Nat → Int32} {S : AS} {ft s : Nat} (hL : LD σ a ad N mc S) (hI : IV S) (hs : s < 8) (hf : FT σ ft) : Con l yX1_serves cX1_serves 5 (some FieldType.int) G 5 0 0 [.ref a, .int (nI s), .ref ft] σ (PI fun z τ => z = nI (serve S s).2 ∧ PL a ad N σ (serve S s).1 τ) := by
  refine con_of (by decide) (Nat.le_of_ble_eq_true rfl) ?_
  refine x_locs (L' := [(0, .ref a), (1, .int (nI s)), (2, .ref ft)]) [0, 1, 2] rfl ?_
  have ho := hL.o
  refine x_aload_n dX1_serves_0 0 rfl rfl ?_
  refine x_get dX1_serves_1 vC_1 in_X1 ho 1 (by decide) q279 rfl ?_
  refine x_iload_n dX1_serves_4 1 rfl rfl ?_
  refine x_callV dX1_serves_5 (con_J2_get hL.al (lYs_at hs)) (lw_V q407 q408 q409 q89 q410) (np := 1) (by decide +kernel) rfl hL.al.rc ⟨Nat.le_of_ble_eq_true rfl, Nat.le_of_ble_eq_true rfl⟩ (Nat.le_of_ble_eq_true rfl) rfl (Nat.zero_le _) (Nat.zero_le _) (rSA ?_) nA'
  refine x_ckcast dX1_serves_8 q183 (hL.ll hs).rc ?_
  refine x_astore_n (i := 3) (L' := [(3, .ref (ad (10 + s))), (0, .ref a), (1, .int (nI s)), (2, .ref ft)]) dX1_serves_11 rfl (by decide) rfl ?_
  refine x_iconst (v := nI 0) dX1_serves_12 (by decide) ?_
  refine x_istore (i := 4) (L' := [(4, .int (nI 0)), (3, .ref (ad (10 + s))), (0, .ref a), (1, .int (nI s)), (2, .ref ft)]) dX1_serves_13 (by decide) rfl ?_
  refine x_locs (L' := [(0, .ref a), (1, .int (nI s)), (2, .ref ft), (3, .ref (ad (10 + s))), (4, .int (nI 0))]) [2, 3, 4, 1, 0] rfl ?_
  suffices loop : ∀ (d n : Nat) (T : AS) (N1 : Nat → NL) (mc1 : Nat → Int32) (τ : AH), (qu T s).length = d → n + (serve T s).2 = (serve S s).2 → (serve T s).1 = (serve S s).1 → LD τ a ad N1 mc1 T → IV T → Fr (FP a ad N) σ τ → (∀ q, FP a ad N1 q → FP a ad N q ∨ σ q = none) → X l yX1_serves cX1_serves 5 (some FieldType.int) [] G (yroom 5 0 0) (yEnd G (yroom 5 0 0) (PI fun z τ => z = nI (serve S s).2 ∧ PL a ad N σ (serve S s).1 τ)) 15 [(0, .ref a), (1, .int (nI s)), (2, .ref ft), (3, .ref (ad (10 + s))), (4, .int (nI n))] [] τ 0 0 from loop _ 0 S N mc σ rfl (Nat.zero_add _) rfl hL hI Fr.rf (fun _ hq => Or.inl hq)
  intro d
  induction d with
  | zero =>
    intro n T N1 mc1 τ hd e1 e2 hL2 hI hF hQ
    have hL0 := hL
    have hL := hL2
    have hq : qu T s = [] := List.eq_nil_of_length_eq_zero hd
    have hNe : (N1 s).isEmpty = true := by rw [List.isEmpty_iff_length_eq_zero, hL.len hs, hd]
    rw [serve_nil hq] at e1 e2
    refine x_aload_n dX1_serves_15 3 rfl rfl ?_
    refine x_callU dX1_serves_16 (con_J0_isEmpty (hL.ll hs)) (lw_U q1091 q1092 q1094 q1095 q87 q1096) rfl (np := 0) (by decide +kernel) rfl (hL.ll hs).rc ⟨Nat.le_of_ble_eq_true rfl, Nat.le_of_ble_eq_true rfl⟩ (Nat.le_of_ble_eq_true rfl) rfl (by decide) (by decide) (rS ?_) nI'
    refine x_top (x' := 1) (by rw [hNe]; rfl) ?_
    refine x_if_ne (tgt := 56) dX1_serves_19 (by decide) (fun _ => ?_) (fun h_ => absurd h_ (by decide))
    refine x_iload dX1_serves_56 4 rfl ?_
    exact x_iret dX1_serves_58 rfl (⟨_, rfl, congrArg nI e1, by rw [← e2]; exact ⟨_, _, hL, hF, hQ⟩⟩)
  | succ d ih =>
    intro n T N1 mc1 τ hd e1 e2 hL2 hI hF hQ
    have hL0 := hL
    have hL := hL2
    have ho := hL.o
    have hf := hf.frL hL0 hF
    obtain ⟨w, ws, hq⟩ : ∃ w ws, qu T s = w :: ws := by
      cases h : qu T s with
      | nil => rw [h] at hd; cases hd
      | cons w ws => exact ⟨w, ws, rfl⟩
    have hNl := hL.len hs
    obtain ⟨x, hx⟩ : ∃ x, (N1 s)[0]? = some x := ⟨_, List.getElem?_eq_getElem (by omega)⟩
    have hNe : (N1 s).isEmpty = false := by
      cases h : N1 s with
      | nil => rw [h] at hx; cases hx
      | cons _ _ => rfl
    have hwq : (qu T s)[0]? = some w := by rw [hq]; rfl
    have hwc := (hL.wr hs).2 0 x w hx hwq
    have hwi := hI.w hs (List.mem_of_getElem? hwq)
    have hk3 : w.2.1 < 3 := by rcases hwi.2.1 with h | h <;> omega
    have hm24 : w.1 < 24 := by have := hI.th hwi.1; have := hI.c; omega
    refine x_aload_n dX1_serves_15 3 rfl rfl ?_
    refine x_callU dX1_serves_16 (con_J0_isEmpty (hL.ll hs)) (lw_U q1091 q1092 q1094 q1095 q87 q1096) rfl (np := 0) (by decide +kernel) rfl (hL.ll hs).rc ⟨Nat.le_of_ble_eq_true rfl, Nat.le_of_ble_eq_true rfl⟩ (Nat.le_of_ble_eq_true rfl) rfl (by decide) (by decide) (rS ?_) nI'
    refine x_top (x' := 0) (by rw [hNe]; rfl) ?_
    refine x_if_ne (tgt := 56) dX1_serves_19 (by decide) (fun h_ => absurd (rfl) h_) (fun _ => ?_)
    refine x_aload_n dX1_serves_22 0 rfl rfl ?_
    refine x_iload_n dX1_serves_23 1 rfl rfl ?_
    refine x_aload_n dX1_serves_24 3 rfl rfl ?_
    refine x_callV dX1_serves_25 (con_J4_getFirst (hL.ll hs) hx) (lw_V q1343 q1344 q1345 q91 q1346) (np := 0) (by decide +kernel) rfl (hL.ll hs).rc ⟨Nat.le_of_ble_eq_true rfl, Nat.le_of_ble_eq_true rfl⟩ (Nat.le_of_ble_eq_true rfl) rfl (by decide) (by decide) (rSA ?_) nA'
    refine x_ckcast dX1_serves_28 q915 (rcv_of vC_4 hwc) ?_
    refine x_aload_n dX1_serves_31 2 rfl rfl ?_
    refine x_callV dX1_serves_32 (con_X1_canHave hL hI hs hwc hf hk3 hm24) (lw_V q1098 q1100 qs15 q86 q1101) (np := 3) (by decide +kernel) rfl (rcv_of vC_1 ho) ⟨Nat.le_of_ble_eq_true rfl, Nat.le_of_ble_eq_true rfl⟩ (Nat.le_of_ble_eq_true rfl) rfl (by decide) (by decide) (rS ?_) nI'
    refine x_if_eq (tgt := 56) dX1_serves_35 (by decide) (fun c1 => ?_) (fun c1 => ?_)
    · have c1 := bI_0 c1
      rw [serve_no hq c1] at e1 e2
      refine x_iload dX1_serves_56 4 rfl ?_
      exact x_iret dX1_serves_58 rfl (⟨_, rfl, congrArg nI e1, by rw [← e2]; exact ⟨_, _, hL, hF, hQ⟩⟩)
    · have c1 := bI_1 c1
      rw [serve_yes hq c1] at e1 e2
      simp only at e1 e2
      refine x_aload_n dX1_serves_38 0 rfl rfl ?_
      refine x_iload_n dX1_serves_39 1 rfl rfl ?_
      refine x_aload_n dX1_serves_40 3 rfl rfl ?_
      refine x_callV dX1_serves_41 (con_J4_removeFirst (hL.ll hs) hx) (lw_V q1347 q1348 q1349 q91 q1350) (np := 0) (by decide +kernel) rfl (hL.ll hs).rc ⟨Nat.le_of_ble_eq_true rfl, Nat.le_of_ble_eq_true rfl⟩ (Nat.le_of_ble_eq_true rfl) rfl (by decide) (by decide) (rA fun u σ4 h1 => ?_) nA'
      obtain ⟨rfl, hl1, hl2⟩ := h1
      have hwc := hl2.2.2 _ _ hwc rfl
      refine x_ckcast dX1_serves_44 q915 (rcv_of vC_4 hwc) ?_
      obtain ⟨N2, mc2, hL2, hF2, hQ2⟩ : PL a ad N1 τ (sRow T s ws) σ4 := PL.list hL hs hl1 hl2 (fun y hy => Or.inl ⟨y, List.mem_of_mem_eraseIdx hy, rfl⟩) (WR.tail (hL.wr hs) hl2 hq)
      have hF3 : Fr (FP a ad N) σ σ4 := hF.tr hF2 hQ
      have hQ3 : ∀ q, FP a ad N2 q → FP a ad N q ∨ σ q = none := fun q hq => (hQ2 q hq).elim (hQ q) (fun z => Or.inr (hF.nn z))
      refine x_callV dX1_serves_47 (con_X1_gives hL2 hs hwc hk3 hm24) (lw_V q1110 q1112 qs17 q86 q1113) (np := 2) (by decide +kernel) rfl (rcv_of vC_1 hL2.o) ⟨Nat.le_of_ble_eq_true rfl, Nat.le_of_ble_eq_true rfl⟩ (Nat.le_of_ble_eq_true rfl) rfl (by decide) (by decide) (rV fun σ5 h3 => ?_) nV'
      obtain ⟨N4, mc4, hL4, hF4, hQ4⟩ := h3
      have hI4 := hI.next hs hq
      have hlen : (qu (giveW (sRow T s ws) s w) s).length = d := by
        show (qu (sRow T s ws) s).length = d
        rw [qu_sRow]; rw [hq] at hd; exact Nat.succ.inj hd
      refine x_iinc (i := 4) (q := 4) (v := nI (n + 1)) (L' := [(4, .int (nI (n + 1))), (0, .ref a), (1, .int (nI s)), (2, .ref ft), (3, .ref (ad (10 + s)))]) dX1_serves_50 rfl (nI_1 _) (by decide) rfl ?_
      refine x_goto (tgt := 15) dX1_serves_53 (by decide) ?_
      refine x_locs (L' := [(0, .ref a), (1, .int (nI s)), (2, .ref ft), (3, .ref (ad (10 + s))), (4, .int (nI (n + 1)))]) [1, 2, 3, 4, 0] rfl ?_
      exact ih (n + 1) _ N4 mc4 _ hlen (by omega) e2 hL4 hI4 (hF3.tr hF4 hQ3) (fun q hq => (hQ4 q hq).elim (hQ3 q) (fun z => Or.inr (hF3.nn z)))
