set_option maxRecDepth 100000
-- ===== the deque of what was kept =====
def AD (σ : AH) (p el h : Nat) (ys : List Nat) : Prop := σ p = some (.inr (15, [.ref el, .int (nI h), .int (nI ((h + ys.length) % 17))])) ∧ (∃ f : Nat → Option Nat, σ el = some (.inl (5, 17, .inr (.inr (.inr (.inr f))))) ∧ ∀ i x, ys[i]? = some x → f ((h + i) % 17) = some x) ∧ ys.length ≤ 9 ∧ h < 17
theorem AD.ro {σ τ : AH} {p el h : Nat} {ys : List Nat} (a : AD σ p el h ys) (hr : RO σ τ) : AD τ p el h ys := ⟨hr _ _ a.1, by obtain ⟨f, h1, h2⟩ := a.2.1; exact ⟨f, hr _ _ h1, h2⟩, a.2.2⟩
theorem AD.rc {G : YG} {σ : AH} {p el h : Nat} {ys : List Nat} (a : AD σ p el h ys) : rcv G σ "java/util/ArrayDeque" p := rcv_of vC_15 a.1
theorem AD.ne {σ : AH} {p el h : Nat} {ys : List Nat} (a : AD σ p el h ys) : p ≠ el := fun e => by
  obtain ⟨f, h1, -⟩ := a.2.1
  have := a.1
  rw [e, h1] at this
  cases this
set_option maxHeartbeats 4000000 in
set_option maxRecDepth 100000 in
theorem con_J8_inc {l : Launch} {G : YG} {σ : AH} {i : Nat} (hi : i < 17) : Con l yJ8_inc cJ8_inc 2 (some FieldType.int) G 0 0 0 [.int (nI i), .int (nI 17)] σ (PS σ (nI ((i + 1) % 17))) := by
  refine con_of (by decide) (Nat.le_of_ble_eq_true rfl) ?_
  refine x_locs (L' := [(0, .int (nI i)), (1, .int (nI 17))]) [0, 1] rfl ?_
  refine x_iinc (i := 0) (q := 0) (v := nI (i + 1)) (L' := [(0, .int (nI (i + 1))), (1, .int (nI 17))]) dJ8_inc_0 rfl (nI_1 _) (by decide) rfl ?_
  refine x_iload_n dJ8_inc_3 0 rfl rfl ?_
  refine x_iload_n dJ8_inc_4 1 rfl rfl ?_
  refine x_icmp_lt (tgt := 10) dJ8_inc_5 (by decide) (fun c1 => ?_) (fun c1 => ?_)
  · have c1 := nLt (by omega) (by omega) c1
    refine x_iload_n dJ8_inc_10 0 rfl rfl ?_
    exact x_iret dJ8_inc_11 rfl (pS' (by rw [Nat.mod_eq_of_lt c1]))
  · have c1 : i = 16 := by have := nNlt (by omega) (by omega) c1; omega
    subst c1
    refine x_iconst (v := nI 0) dJ8_inc_8 (by decide) ?_
    refine x_istore_n (i := 0) (L' := [(0, .int (nI 0)), (1, .int (nI 17))]) dJ8_inc_9 rfl (by decide) rfl ?_
    refine x_iload_n dJ8_inc_10 0 rfl rfl ?_
    exact x_iret dJ8_inc_11 rfl (pS' rfl)
set_option maxHeartbeats 4000000 in
set_option maxRecDepth 100000 in
theorem con_J8_dec {l : Launch} {G : YG} {σ : AH} {i : Nat} (hi : i < 17) : Con l yJ8_dec cJ8_dec 2 (some FieldType.int) G 0 0 0 [.int (nI i), .int (nI 17)] σ (PS σ (nI ((i + 16) % 17))) := by
  refine con_of (by decide) (Nat.le_of_ble_eq_true rfl) ?_
  refine x_locs (L' := [(0, .int (nI i)), (1, .int (nI 17))]) [0, 1] rfl ?_
  rcases Nat.eq_zero_or_pos i with h0 | h0
  · subst h0
    refine x_iinc (i := 0) (q := 0) (v := (nI 0) + (-1)) (L' := [(0, .int ((nI 0) + (-1))), (1, .int (nI 17))]) dJ8_dec_0 rfl (rfl) (by decide) rfl ?_
    refine x_iload_n dJ8_dec_3 0 rfl rfl ?_
    refine x_if_ge (tgt := 11) dJ8_dec_4 (by decide) (fun h_ => absurd h_ (by decide)) (fun _ => ?_)
    refine x_iload_n dJ8_dec_7 1 rfl rfl ?_
    refine x_iconst (v := nI 1) dJ8_dec_8 (by decide) ?_
    refine x_isub dJ8_dec_9 ?_
    refine x_istore_n (i := 0) (L' := [(0, .int ((nI 17) - (nI 1))), (1, .int (nI 17))]) dJ8_dec_10 rfl (by decide) rfl ?_
    refine x_iload_n dJ8_dec_11 0 rfl rfl ?_
    refine x_top (x' := nI 16) (rfl) ?_
    exact x_iret dJ8_dec_12 rfl (pS' rfl)
  · obtain ⟨j, rfl⟩ : ∃ j, i = j + 1 := ⟨i - 1, by omega⟩
    refine x_iinc (i := 0) (q := 0) (v := nI j) (L' := [(0, .int (nI j)), (1, .int (nI 17))]) dJ8_dec_0 rfl (pk_m1 _) (by decide) rfl ?_
    refine x_iload_n dJ8_dec_3 0 rfl rfl ?_
    refine x_if_ge (tgt := 11) dJ8_dec_4 (by decide) (fun _ => ?_) (fun h_ => absurd (nI_pos' (by omega)) h_)
    refine x_iload_n dJ8_dec_11 0 rfl rfl ?_
    exact x_iret dJ8_dec_12 rfl (pS' (by rw [show (j + 1 + 16) % 17 = j by omega]))
set_option maxHeartbeats 4000000 in
set_option maxRecDepth 100000 in
theorem con_J8_sub {l : Launch} {G : YG} {σ : AH} {i j : Nat} (hi : i < 17) (hj : j < 17) : Con l yJ8_sub cJ8_sub 3 (some FieldType.int) G 0 0 0 [.int (nI i), .int (nI j), .int (nI 17)] σ (PS σ (nI ((i + 17 - j) % 17))) := by
  refine con_of (by decide) (Nat.le_of_ble_eq_true rfl) ?_
  refine x_locs (L' := [(0, .int (nI i)), (1, .int (nI j)), (2, .int (nI 17))]) [0, 1, 2] rfl ?_
  refine x_iload_n dJ8_sub_0 0 rfl rfl ?_
  refine x_iload_n dJ8_sub_1 1 rfl rfl ?_
  refine x_isub dJ8_sub_2 ?_
  refine x_dup dJ8_sub_3 rfl ?_
  refine x_istore_n (i := 0) (L' := [(0, .int ((nI i) - (nI j))), (1, .int (nI j)), (2, .int (nI 17))]) dJ8_sub_4 rfl (by decide) rfl ?_
  refine x_if_ge (tgt := 12) dJ8_sub_5 (by decide) (fun c1 => ?_) (fun c1 => ?_)
  · have c2 : j ≤ i := by
      rw [Int32.le_iff_toInt_le, pk_sub_toInt (by omega) (by omega)] at c1
      have e : (0 : Int32).toInt = 0 := by decide
      omega
    have c3 : (nI i) - (nI j) = nI (i - j) := nI_sub c2
    refine x_iload_n dJ8_sub_12 0 rfl rfl ?_
    exact x_iret dJ8_sub_13 rfl (pS' (by rw [c3, show (i + 17 - j) % 17 = i - j by omega]))
  · have c2 : i < j := by
      rw [Int32.le_iff_toInt_le, pk_sub_toInt (by omega) (by omega)] at c1
      have e : (0 : Int32).toInt = 0 := by decide
      omega
    have c3 : (nI i) - (nI j) + nI 17 = nI ((i + 17 - j) % 17) := by
      rw [show (i + 17 - j) % 17 = i + 17 - j by omega, ← nI_sub (show j ≤ i + 17 by omega), ← nI_add]
      rw [Int32.sub_eq_add_neg, Int32.sub_eq_add_neg, Int32.add_assoc, Int32.add_assoc, Int32.add_comm (-nI j)]
    refine x_iload_n dJ8_sub_8 0 rfl rfl ?_
    refine x_iload_n dJ8_sub_9 2 rfl rfl ?_
    refine x_iadd dJ8_sub_10 ?_
    refine x_istore_n (i := 0) (L' := [(0, .int (((nI i) - (nI j)) + (nI 17))), (1, .int (nI j)), (2, .int (nI 17))]) dJ8_sub_11 rfl (by decide) rfl ?_
    refine x_iload_n dJ8_sub_12 0 rfl rfl ?_
    exact x_iret dJ8_sub_13 rfl (pS' c3)
set_option maxHeartbeats 4000000 in
set_option maxRecDepth 100000 in
theorem con_J8_init {l : Launch} {G : YG} {σ : AH} {p : Nat} (hp : σ p = some (.inr (15, [.null, .int 0, .int 0]))) : Con l yJ8_init cJ8_init 1 none G 2 1 17 [.ref p] σ (PV fun τ => ∃ el, σ el = none ∧ AD τ p el 0 [] ∧ ∀ r, σ r ≠ none → r ≠ p → τ r = σ r) := by
  refine con_of (by decide) (Nat.le_of_ble_eq_true rfl) ?_
  refine x_locs (L' := [(0, .ref p)]) [0] rfl ?_
  refine x_aload_n dJ8_init_0 0 rfl rfl ?_
  refine x_callI dJ8_init_1 (con_J0_init) (lw_meth q157) q87 q320 q156 rfl (np := 0) (by decide +kernel) rfl ⟨Nat.le_of_ble_eq_true rfl, Nat.le_of_ble_eq_true rfl⟩ (Nat.le_of_ble_eq_true rfl) rfl (Nat.zero_le _) (Nat.zero_le _) (rV fun σ1 h0 => ?_) nV'
  subst h0
  refine x_aload_n dJ8_init_4 0 rfl rfl ?_
  refine x_bipush (v := nI 17) dJ8_init_5 (by decide) ?_
  refine x_newq5 (N := 17) dJ8_init_7 q321 q160 rfl (by decide) (Nat.le_of_ble_eq_true rfl) (Nat.le_of_ble_eq_true rfl) (fun el σ3 hn hb hc hu => ?_)
  have hnp : p ≠ el := cell_nn hn hp
  have hp1 := ro_new hn hu _ _ hp
  refine x_put (fs' := [.ref el, .int 0, .int 0]) dJ8_init_10 vC_15 in_J8 tyJ8_ok nmJ8 hp1 0 (by decide) q322 rfl rfl (rfl) (rfl) (Nat.le_of_ble_eq_true rfl) rfl (fun σ4 hc6 hu5 => ?_)
  have hc := at_put hu5 hc (cell_ne hp1 hc rfl)
  exact x_vret dJ8_init_13 rfl ⟨rfl, el, hn, ⟨hc6, ⟨_, hc, fun i x hx => by cases hx⟩, Nat.zero_le _, by decide⟩, fun r hr hrp => (hu5 r hrp).trans (hu r (fun e => by subst e; exact hr hn))⟩
set_option maxHeartbeats 4000000 in
set_option maxRecDepth 100000 in
theorem con_J8_addLast {l : Launch} {G : YG} {σ : AH} {p el h : Nat} {ys : List Nat} {x : Nat} {fs : List Value} (hA : AD σ p el h ys) (hx : σ x = some (.inr (1, fs))) (hl : ys.length < 9) : Con l yJ8_addLast cJ8_addLast 3 none G 1 0 0 [.ref p, .ref x] σ (PV fun τ => AD τ p el h (ys ++ [x]) ∧ ∀ r, r ≠ p → r ≠ el → τ r = σ r) := by
  refine con_of (by decide) (Nat.le_of_ble_eq_true rfl) ?_
  refine x_locs (L' := [(0, .ref p), (1, .ref x)]) [0, 1] rfl ?_
  have hpe := hA.ne
  have hA0 := hA
  obtain ⟨hp, ⟨f, hel, hf⟩, hl9, hh⟩ := hA
  refine x_aload_n dJ8_addLast_0 1 rfl rfl ?_
  refine x_ifnonnull (tgt := 12) dJ8_addLast_1 (by decide) ?_
  refine x_aload_n dJ8_addLast_12 0 rfl rfl ?_
  refine x_get dJ8_addLast_13 vC_15 in_J8 hp 0 (by decide) q322 rfl ?_
  refine x_astore_n (i := 2) (L' := [(2, .ref el), (0, .ref p), (1, .ref x)]) dJ8_addLast_16 rfl (by decide) rfl ?_
  refine x_aload_n dJ8_addLast_17 0 rfl rfl ?_
  refine x_aload_n dJ8_addLast_18 1 rfl rfl ?_
  refine x_get dJ8_addLast_19 vC_15 in_J8 hp 2 (by decide) q326 rfl ?_
  refine x_aload_n dJ8_addLast_22 2 rfl rfl ?_
  refine x_aast5 (N := 17) (j := (h + ys.length) % 17) dJ8_addLast_23 hel hx vC_1 q2274 rfl (Nat.mod_lt _ (by decide)) (by decide) (fun σ8 g8 f8 => ?_)
  have hp := at_put f8 hp hpe
  refine x_aload_n dJ8_addLast_24 1 rfl rfl ?_
  refine x_get dJ8_addLast_25 vC_15 in_J8 hp 1 (by decide) q325 rfl ?_
  refine x_aload_n dJ8_addLast_28 1 rfl rfl ?_
  refine x_aload_n dJ8_addLast_29 1 rfl rfl ?_
  refine x_get dJ8_addLast_30 vC_15 in_J8 hp 2 (by decide) q326 rfl ?_
  refine x_aload_n dJ8_addLast_33 0 rfl rfl ?_
  refine x_alen (N := 0) (q0 := 5) (v := nI 17) dJ8_addLast_34 g8 rfl rfl ?_
  refine x_callS dJ8_addLast_35 (con_J8_inc (i := (h + ys.length) % 17) (Nat.mod_lt _ (by decide))) (lw_S q1003 q890 q96 q891) (np := 2) (by decide +kernel) rfl ⟨Nat.le_of_ble_eq_true rfl, Nat.le_of_ble_eq_true rfl⟩ (Nat.le_of_ble_eq_true rfl) rfl (by decide) (by decide) (rS ?_) nI'
  refine x_dup_x1 dJ8_addLast_38 rfl rfl ?_
  refine x_put (fs' := [.ref el, .int (nI h), .int (nI (((h + ys.length) % 17 + 1) % 17))]) dJ8_addLast_39 vC_15 in_J8 tyJ8_ok nmJ8 hp 2 (by decide) q326 rfl rfl (rfl) (rfl) (Nat.le_of_ble_eq_true rfl) rfl (fun σ2 hc4 hu3 => ?_)
  have g8 := at_put hu3 g8 (cell_ne hp g8 rfl)
  refine x_icmp_ne (tgt := 50) dJ8_addLast_42 (by decide) (fun _ => ?_) (fun h_ => absurd h_ (fun z => absurd (nEq (by omega) (by omega) z) (by omega)))
  refine x_vret dJ8_addLast_50 rfl ⟨rfl, ⟨by rw [List.length_append, show (h + (ys.length + [x].length)) % 17 = ((h + ys.length) % 17 + 1) % 17 by show (h + (ys.length + 1)) % 17 = _; omega]; exact hc4, ⟨_, g8, fun i y hy => ?_⟩, by rw [List.length_append]; exact hl, hh⟩, fun r h1 h2 => (hu3 r h1).trans (f8 r h2)⟩
  unfold va_up
  rw [List.getElem?_append] at hy
  split at hy
  · rename_i hi
    rw [if_neg (by omega)]; exact hf i y hy
  · rename_i hi
    have hil := (List.getElem?_eq_some_iff.mp hy).1
    have hie : i = ys.length := by simp at hil; omega
    subst hie
    rw [Nat.sub_self] at hy
    cases hy
    rw [if_pos rfl]
set_option maxHeartbeats 4000000 in
set_option maxRecDepth 100000 in
theorem con_J8_size {l : Launch} {G : YG} {σ : AH} {p el h : Nat} {ys : List Nat} (hA : AD σ p el h ys) : Con l yJ8_size cJ8_size 1 (some FieldType.int) G 1 0 0 [.ref p] σ (PS σ (nI ys.length)) := by
  refine con_of (by decide) (Nat.le_of_ble_eq_true rfl) ?_
  refine x_locs (L' := [(0, .ref p)]) [0] rfl ?_
  have hpe := hA.ne
  have hA0 := hA
  obtain ⟨hp, ⟨f, hel, hf⟩, hl9, hh⟩ := hA
  refine x_aload_n dJ8_size_0 0 rfl rfl ?_
  refine x_get dJ8_size_1 vC_15 in_J8 hp 2 (by decide) q326 rfl ?_
  refine x_aload_n dJ8_size_4 0 rfl rfl ?_
  refine x_get dJ8_size_5 vC_15 in_J8 hp 1 (by decide) q325 rfl ?_
  refine x_aload_n dJ8_size_8 0 rfl rfl ?_
  refine x_get dJ8_size_9 vC_15 in_J8 hp 0 (by decide) q322 rfl ?_
  refine x_alen (N := 0) (q0 := 5) (v := nI 17) dJ8_size_12 hel rfl rfl ?_
  refine x_callS dJ8_size_13 (con_J8_sub (i := (h + ys.length) % 17) (j := h) (Nat.mod_lt _ (by decide)) hh) (lw_S q1020 q1021 q96 q1022) (np := 3) (by decide +kernel) rfl ⟨Nat.le_of_ble_eq_true rfl, Nat.le_of_ble_eq_true rfl⟩ (Nat.le_of_ble_eq_true rfl) rfl (by decide) (by decide) (rS ?_) nI'
  refine x_top (x' := nI ys.length) (by congr 1; omega) ?_
  exact x_iret dJ8_size_16 rfl (pS)
set_option maxHeartbeats 4000000 in
set_option maxRecDepth 100000 in
theorem con_J8_isEmpty {l : Launch} {G : YG} {σ : AH} {p el h : Nat} {ys : List Nat} (hA : AD σ p el h ys) : Con l yJ8_isEmpty cJ8_isEmpty 1 (some FieldType.boolean) G 0 0 0 [.ref p] σ (PS σ (bI ys.isEmpty)) := by
  refine con_of (by decide) (Nat.le_of_ble_eq_true rfl) ?_
  refine x_locs (L' := [(0, .ref p)]) [0] rfl ?_
  have hpe := hA.ne
  have hA0 := hA
  obtain ⟨hp, ⟨f, hel, hf⟩, hl9, hh⟩ := hA
  refine x_aload_n dJ8_isEmpty_0 0 rfl rfl ?_
  refine x_get dJ8_isEmpty_1 vC_15 in_J8 hp 1 (by decide) q325 rfl ?_
  refine x_aload_n dJ8_isEmpty_4 0 rfl rfl ?_
  refine x_get dJ8_isEmpty_5 vC_15 in_J8 hp 2 (by decide) q326 rfl ?_
  refine x_icmp_ne (tgt := 15) dJ8_isEmpty_8 (by decide) (fun c1 => ?_) (fun c1 => ?_)
  · have c1 := nNe (by omega) (by omega) c1
    have h1 : ys.isEmpty = false := by cases ys; exact absurd (show h = (h + 0) % 17 by omega) c1; rfl
    refine x_iconst (v := nI 0) dJ8_isEmpty_15 (by decide) ?_
    exact x_zret dJ8_isEmpty_16 rfl (rfl) (pS' (by rw [h1]; rfl))
  · have c1 := nEq (by omega) (by omega) c1
    have h1 : ys.isEmpty = true := by rw [List.eq_nil_of_length_eq_zero (show ys.length = 0 by omega)]; rfl
    refine x_iconst (v := nI 1) dJ8_isEmpty_11 (by decide) ?_
    refine x_goto (tgt := 16) dJ8_isEmpty_12 (by decide) ?_
    exact x_zret dJ8_isEmpty_16 rfl (rfl) (pS' (by rw [h1]; rfl))
set_option maxHeartbeats 4000000 in
set_option maxRecDepth 100000 in
theorem con_J8_elementAt {l : Launch} {G : YG} {σ : AH} {el j x : Nat} {f : Nat → Option Nat} (hel : σ el = some (.inl (5, 17, .inr (.inr (.inr (.inr f)))))) (hj : j < 17) (hf : f j = some x) : Con l yJ8_elementAt cJ8_elementAt 2 (some (FieldType.object "java/lang/Object")) G 0 0 0 [.ref el, .int (nI j)] σ (PA fun z τ => z = x ∧ τ = σ) := by
  refine con_of (by decide) (Nat.le_of_ble_eq_true rfl) ?_
  refine x_locs (L' := [(0, .ref el), (1, .int (nI j))]) [0, 1] rfl ?_
  refine x_aload_n dJ8_elementAt_0 0 rfl rfl ?_
  refine x_iload_n dJ8_elementAt_1 1 rfl rfl ?_
  refine x_aald5 (N := 17) (j := j) dJ8_elementAt_2 hel rfl hj (by decide) hf ?_
  exact x_aret dJ8_elementAt_3 rfl (by first | exact Or.inl ⟨_, rfl⟩ | exact Or.inr ⟨_, rfl⟩) (Or.inr ⟨_, rfl⟩) (⟨_, rfl, rfl, rfl⟩)
set_option maxHeartbeats 4000000 in
set_option maxRecDepth 100000 in
theorem con_J8_pollFirst {l : Launch} {G : YG} {σ : AH} {p el h x : Nat} {ys : List Nat} (hA : AD σ p el h (x :: ys)) : Con l yJ8_pollFirst cJ8_pollFirst 4 (some (FieldType.object "java/lang/Object")) G 1 0 0 [.ref p] σ (PA fun z τ => z = x ∧ AD τ p el ((h + 1) % 17) ys ∧ ∀ r, r ≠ p → r ≠ el → τ r = σ r) := by
  refine con_of (by decide) (Nat.le_of_ble_eq_true rfl) ?_
  refine x_locs (L' := [(0, .ref p)]) [0] rfl ?_
  have hpe := hA.ne
  have hA0 := hA
  obtain ⟨hp, ⟨f, hel, hf⟩, hl9, hh⟩ := hA
  have hl9 : ys.length + 1 ≤ 9 := hl9
  have hfx : f h = some x := by have := hf 0 x rfl; rw [Nat.add_zero, Nat.mod_eq_of_lt hh] at this; exact this
  refine x_aload_n dJ8_pollFirst_0 0 rfl rfl ?_
  refine x_get dJ8_pollFirst_1 vC_15 in_J8 hp 0 (by decide) q322 rfl ?_
  refine x_dup dJ8_pollFirst_4 rfl ?_
  refine x_astore_n (i := 1) (L' := [(1, .ref el), (0, .ref p)]) dJ8_pollFirst_5 rfl (by decide) rfl ?_
  refine x_aload_n dJ8_pollFirst_6 1 rfl rfl ?_
  refine x_get dJ8_pollFirst_7 vC_15 in_J8 hp 1 (by decide) q325 rfl ?_
  refine x_dup dJ8_pollFirst_10 rfl ?_
  refine x_istore_n (i := 2) (L' := [(2, .int (nI h)), (1, .ref el), (0, .ref p)]) dJ8_pollFirst_11 rfl (by decide) rfl ?_
  refine x_callS dJ8_pollFirst_12 (con_J8_elementAt hel hh hfx) (lw_S q1031 q1032 q96 q1033) (np := 2) (by decide +kernel) rfl ⟨Nat.le_of_ble_eq_true rfl, Nat.le_of_ble_eq_true rfl⟩ (Nat.le_of_ble_eq_true rfl) rfl (by decide) (by decide) (rA fun z σ1 h1 => ?_) nA'
  obtain ⟨rfl, rfl⟩ := h1
  refine x_astore_n (i := 3) (L' := [(3, .ref z), (2, .int (nI h)), (1, .ref el), (0, .ref p)]) dJ8_pollFirst_15 rfl (by decide) rfl ?_
  refine x_aload_n dJ8_pollFirst_16 0 rfl rfl ?_
  refine x_ifnull dJ8_pollFirst_17 ?_
  refine x_aload_n dJ8_pollFirst_20 2 rfl rfl ?_
  refine x_iload_n dJ8_pollFirst_21 1 rfl rfl ?_
  refine x_null dJ8_pollFirst_22 ?_
  refine x_aast5N (N := 17) (j := h) dJ8_pollFirst_23 hel rfl hh (by decide) (fun σ8 g8 f8 => ?_)
  have hp := at_put f8 hp hpe
  refine x_aload_n dJ8_pollFirst_24 3 rfl rfl ?_
  refine x_iload_n dJ8_pollFirst_25 1 rfl rfl ?_
  refine x_aload_n dJ8_pollFirst_26 2 rfl rfl ?_
  refine x_alen (N := 0) (q0 := 5) (v := nI 17) dJ8_pollFirst_27 g8 rfl rfl ?_
  refine x_callS dJ8_pollFirst_28 (con_J8_inc (i := h) hh) (lw_S q1003 q890 q96 q891) (np := 2) (by decide +kernel) rfl ⟨Nat.le_of_ble_eq_true rfl, Nat.le_of_ble_eq_true rfl⟩ (Nat.le_of_ble_eq_true rfl) rfl (by decide) (by decide) (rS ?_) nI'
  refine x_put (fs' := [.ref el, .int (nI ((h + 1) % 17)), .int (nI ((h + (z :: ys).length) % 17))]) dJ8_pollFirst_31 vC_15 in_J8 tyJ8_ok nmJ8 hp 1 (by decide) q325 rfl rfl (rfl) (rfl) (Nat.le_of_ble_eq_true rfl) rfl (fun σ3 hc5 hu4 => ?_)
  have g8 := at_put hu4 g8 (cell_ne hp g8 rfl)
  refine x_aload_n dJ8_pollFirst_34 0 rfl rfl ?_
  refine x_aret dJ8_pollFirst_35 rfl (by first | exact Or.inl ⟨_, rfl⟩ | exact Or.inr ⟨_, rfl⟩) (Or.inr ⟨_, rfl⟩) ⟨_, rfl, rfl, ⟨by rw [show ((h + 1) % 17 + ys.length) % 17 = (h + (z :: ys).length) % 17 by show _ = (h + (ys.length + 1)) % 17; omega]; exact hc5, ⟨_, g8, fun i y hy => ?_⟩, by omega, Nat.mod_lt _ (by decide)⟩, fun r h1 h2 => (hu4 r h1).trans (f8 r h2)⟩
  have hil := get_lt' hy
  unfold va_up
  rw [if_neg (by omega)]
  have := hf (i + 1) y hy
  rw [show ((h + 1) % 17 + i) % 17 = (h + (i + 1)) % 17 by omega]
  exact this
set_option maxHeartbeats 4000000 in
set_option maxRecDepth 100000 in
theorem con_J8_removeFirst {l : Launch} {G : YG} {σ : AH} {p el h x : Nat} {ys : List Nat} (hA : AD σ p el h (x :: ys)) : Con l yJ8_removeFirst cJ8_removeFirst 2 (some (FieldType.object "java/lang/Object")) G 2 0 0 [.ref p] σ (PA fun z τ => z = x ∧ AD τ p el ((h + 1) % 17) ys ∧ ∀ r, r ≠ p → r ≠ el → τ r = σ r) := by
  refine con_of (by decide) (Nat.le_of_ble_eq_true rfl) ?_
  refine x_locs (L' := [(0, .ref p)]) [0] rfl ?_
  refine x_aload_n dJ8_removeFirst_0 0 rfl rfl ?_
  refine x_callV dJ8_removeFirst_1 (con_J8_pollFirst hA) (lw_V q1027 q1028 q1029 q96 q1030) (np := 0) (by decide +kernel) rfl hA.rc ⟨Nat.le_of_ble_eq_true rfl, Nat.le_of_ble_eq_true rfl⟩ (Nat.le_of_ble_eq_true rfl) rfl (by decide) (by decide) (rA fun z σ1 h1 => ?_) nA'
  refine x_astore_n (i := 1) (L' := [(1, .ref z), (0, .ref p)]) dJ8_removeFirst_4 rfl (by decide) rfl ?_
  refine x_aload_n dJ8_removeFirst_5 0 rfl rfl ?_
  refine x_ifnonnull (tgt := 17) dJ8_removeFirst_6 (by decide) ?_
  refine x_aload_n dJ8_removeFirst_17 0 rfl rfl ?_
  exact x_aret dJ8_removeFirst_18 rfl (by first | exact Or.inl ⟨_, rfl⟩ | exact Or.inr ⟨_, rfl⟩) (Or.inr ⟨_, rfl⟩) (⟨_, rfl, h1⟩)
set_option maxHeartbeats 4000000 in
set_option maxRecDepth 100000 in
theorem con_J8_pollLast {l : Launch} {G : YG} {σ : AH} {p el h x : Nat} {ys : List Nat} (hA : AD σ p el h (ys ++ [x])) : Con l yJ8_pollLast cJ8_pollLast 4 (some (FieldType.object "java/lang/Object")) G 1 0 0 [.ref p] σ (PA fun z τ => z = x ∧ AD τ p el h ys ∧ ∀ r, r ≠ p → r ≠ el → τ r = σ r) := by
  refine con_of (by decide) (Nat.le_of_ble_eq_true rfl) ?_
  refine x_locs (L' := [(0, .ref p)]) [0] rfl ?_
  have hpe := hA.ne
  have hA0 := hA
  obtain ⟨hp, ⟨f, hel, hf⟩, hl9, hh⟩ := hA
  have hlen : (ys ++ [x]).length = ys.length + 1 := by rw [List.length_append]; rfl
  rw [hlen] at hl9 hp
  have hfx : f ((h + ys.length) % 17) = some x := hf ys.length x (by rw [List.getElem?_append_right (Nat.le_refl _), Nat.sub_self]; rfl)
  have hde : ((h + (ys.length + 1)) % 17 + 16) % 17 = (h + ys.length) % 17 := by omega
  refine x_aload_n dJ8_pollLast_0 0 rfl rfl ?_
  refine x_get dJ8_pollLast_1 vC_15 in_J8 hp 0 (by decide) q322 rfl ?_
  refine x_dup dJ8_pollLast_4 rfl ?_
  refine x_astore_n (i := 1) (L' := [(1, .ref el), (0, .ref p)]) dJ8_pollLast_5 rfl (by decide) rfl ?_
  refine x_aload_n dJ8_pollLast_6 1 rfl rfl ?_
  refine x_get dJ8_pollLast_7 vC_15 in_J8 hp 2 (by decide) q326 rfl ?_
  refine x_aload_n dJ8_pollLast_10 0 rfl rfl ?_
  refine x_alen (N := 0) (q0 := 5) (v := nI 17) dJ8_pollLast_11 hel rfl rfl ?_
  refine x_callS dJ8_pollLast_12 (con_J8_dec (i := (h + (ys.length + 1)) % 17) (Nat.mod_lt _ (by decide))) (lw_S q1313 q1314 q96 q1315) (np := 2) (by decide +kernel) rfl ⟨Nat.le_of_ble_eq_true rfl, Nat.le_of_ble_eq_true rfl⟩ (Nat.le_of_ble_eq_true rfl) rfl (by decide) (by decide) (rS ?_) nI'
  refine x_top (x' := nI ((h + ys.length) % 17)) (by rw [hde]) ?_
  refine x_dup dJ8_pollLast_15 rfl ?_
  refine x_istore_n (i := 2) (L' := [(2, .int (nI ((h + ys.length) % 17))), (1, .ref el), (0, .ref p)]) dJ8_pollLast_16 rfl (by decide) rfl ?_
  refine x_callS dJ8_pollLast_17 (con_J8_elementAt hel (Nat.mod_lt _ (by decide)) hfx) (lw_S q1031 q1032 q96 q1033) (np := 2) (by decide +kernel) rfl ⟨Nat.le_of_ble_eq_true rfl, Nat.le_of_ble_eq_true rfl⟩ (Nat.le_of_ble_eq_true rfl) rfl (by decide) (by decide) (rA fun z σ2 h1 => ?_) nA'
  obtain ⟨rfl, rfl⟩ := h1
  refine x_astore_n (i := 3) (L' := [(3, .ref z), (2, .int (nI ((h + ys.length) % 17))), (1, .ref el), (0, .ref p)]) dJ8_pollLast_20 rfl (by decide) rfl ?_
  refine x_aload_n dJ8_pollLast_21 0 rfl rfl ?_
  refine x_ifnull dJ8_pollLast_22 ?_
  refine x_aload_n dJ8_pollLast_25 2 rfl rfl ?_
  refine x_aload_n dJ8_pollLast_26 3 rfl rfl ?_
  refine x_iload_n dJ8_pollLast_27 1 rfl rfl ?_
  refine x_dup_x1 dJ8_pollLast_28 rfl rfl ?_
  refine x_put (fs' := [.ref el, .int (nI h), .int (nI ((h + ys.length) % 17))]) dJ8_pollLast_29 vC_15 in_J8 tyJ8_ok nmJ8 hp 2 (by decide) q326 rfl rfl (rfl) (rfl) (Nat.le_of_ble_eq_true rfl) rfl (fun σ3 hc5 hu4 => ?_)
  have hel := at_put hu4 hel (cell_ne hp hel rfl)
  refine x_null dJ8_pollLast_32 ?_
  refine x_aast5N (N := 17) (j := (h + ys.length) % 17) dJ8_pollLast_33 hel rfl (Nat.mod_lt _ (by decide)) (by decide) (fun σ8 g8 f8 => ?_)
  have hpf := at_put f8 hc5 hpe
  refine x_aload_n dJ8_pollLast_34 0 rfl rfl ?_
  refine x_aret dJ8_pollLast_35 rfl (by first | exact Or.inl ⟨_, rfl⟩ | exact Or.inr ⟨_, rfl⟩) (Or.inr ⟨_, rfl⟩) ⟨_, rfl, rfl, ⟨hpf, ⟨_, g8, fun i y hy => ?_⟩, by omega, hh⟩, fun r h1 h2 => (f8 r h2).trans (hu4 r h1)⟩
  have hil := get_lt' hy
  unfold va_up
  rw [if_neg (by omega)]
  exact hf i y (by rw [List.getElem?_append_left hil]; exact hy)
set_option maxHeartbeats 4000000 in
set_option maxRecDepth 100000 in
theorem con_J8_removeLast {l : Launch} {G : YG} {σ : AH} {p el h x : Nat} {ys : List Nat} (hA : AD σ p el h (ys ++ [x])) : Con l yJ8_removeLast cJ8_removeLast 2 (some (FieldType.object "java/lang/Object")) G 2 0 0 [.ref p] σ (PA fun z τ => z = x ∧ AD τ p el h ys ∧ ∀ r, r ≠ p → r ≠ el → τ r = σ r) := by
  refine con_of (by decide) (Nat.le_of_ble_eq_true rfl) ?_
  refine x_locs (L' := [(0, .ref p)]) [0] rfl ?_
  refine x_aload_n dJ8_removeLast_0 0 rfl rfl ?_
  refine x_callV dJ8_removeLast_1 (con_J8_pollLast hA) (lw_V q1851 q1852 q1853 q96 q1854) (np := 0) (by decide +kernel) rfl hA.rc ⟨Nat.le_of_ble_eq_true rfl, Nat.le_of_ble_eq_true rfl⟩ (Nat.le_of_ble_eq_true rfl) rfl (by decide) (by decide) (rA fun z σ1 h1 => ?_) nA'
  refine x_astore_n (i := 1) (L' := [(1, .ref z), (0, .ref p)]) dJ8_removeLast_4 rfl (by decide) rfl ?_
  refine x_aload_n dJ8_removeLast_5 0 rfl rfl ?_
  refine x_ifnonnull (tgt := 17) dJ8_removeLast_6 (by decide) ?_
  refine x_aload_n dJ8_removeLast_17 0 rfl rfl ?_
  exact x_aret dJ8_removeLast_18 rfl (by first | exact Or.inl ⟨_, rfl⟩ | exact Or.inr ⟨_, rfl⟩) (Or.inr ⟨_, rfl⟩) (⟨_, rfl, h1⟩)
set_option maxHeartbeats 4000000 in
set_option maxRecDepth 100000 in
theorem con_J8_circularClear {l : Launch} {G : YG} {σ : AH} {el i e : Nat} {f : Nat → Option Nat} (hel : σ el = some (.inl (5, 17, .inr (.inr (.inr (.inr f)))))) (hi : i < 17) (he : e < 17) : Con l yJ8_circularClear cJ8_circularClear 4 none G 0 0 0 [.ref el, .int (nI i), .int (nI e)] σ (PV fun τ => (∃ g : Nat → Option Nat, τ el = some (.inl (5, 17, .inr (.inr (.inr (.inr g)))))) ∧ ∀ r, r ≠ el → τ r = σ r) := by
  refine con_of (by decide) (Nat.le_of_ble_eq_true rfl) ?_
  refine x_locs (L' := [(0, .ref el), (1, .int (nI i)), (2, .int (nI e))]) [0, 1, 2] rfl ?_
  have loop : ∀ (d k t : Nat) (τ : AH) (g : Nat → Option Nat), k + d = t → t ≤ 17 → (t = e ∨ t = 17) → τ el = some (.inl (5, 17, .inr (.inr (.inr (.inr g))))) → (∀ r, r ≠ el → τ r = σ r) → (∀ (τ2 : AH) (g2 : Nat → Option Nat), τ2 el = some (.inl (5, 17, .inr (.inr (.inr (.inr g2))))) → (∀ r, r ≠ el → τ2 r = σ r) → X l yJ8_circularClear cJ8_circularClear 4 none [] G (yroom 0 0 0) (yEnd G (yroom 0 0 0) (PV fun τ => (∃ g : Nat → Option Nat, τ el = some (.inl (5, 17, .inr (.inr (.inr (.inr g)))))) ∧ ∀ r, r ≠ el → τ r = σ r)) 27 [(0, .ref el), (1, .int (nI t)), (2, .int (nI e)), (3, .int (nI t))] [] τ2 0 0) → X l yJ8_circularClear cJ8_circularClear 4 none [] G (yroom 0 0 0) (yEnd G (yroom 0 0 0) (PV fun τ => (∃ g : Nat → Option Nat, τ el = some (.inl (5, 17, .inr (.inr (.inr (.inr g)))))) ∧ ∀ r, r ≠ el → τ r = σ r)) 12 [(0, .ref el), (1, .int (nI k)), (2, .int (nI e)), (3, .int (nI t))] [] τ 0 0 := by
    intro d
    induction d with
    | zero =>
      intro k t τ g hk ht hte hg hfr next
      have hkt : k = t := by omega
      subst hkt
      refine x_iload_n dJ8_circularClear_12 1 rfl rfl ?_
      refine x_iload_n dJ8_circularClear_13 3 rfl rfl ?_
      refine x_icmp_ge (tgt := 27) dJ8_circularClear_14 (by decide) (fun _ => ?_) (fun h_ => absurd ((nI_leI (by omega) (by omega)).mpr (Nat.le_refl _)) h_)
      refine x_locs (L' := [(0, .ref el), (1, .int (nI k)), (2, .int (nI e)), (3, .int (nI k))]) [0, 1, 2, 3] rfl ?_
      exact next τ g hg hfr
    | succ d ih =>
      intro k t τ g hk ht hte hg hfr next
      refine x_iload_n dJ8_circularClear_12 1 rfl rfl ?_
      refine x_iload_n dJ8_circularClear_13 3 rfl rfl ?_
      refine x_icmp_ge (tgt := 27) dJ8_circularClear_14 (by decide) (fun h_ => absurd h_ (fun h => absurd (nLe (by omega) (by omega) h) (by omega))) (fun _ => ?_)
      refine x_aload_n dJ8_circularClear_17 0 rfl rfl ?_
      refine x_iload_n dJ8_circularClear_18 1 rfl rfl ?_
      refine x_null dJ8_circularClear_19 ?_
      refine x_aast5N (N := 17) (j := k) dJ8_circularClear_20 hg rfl (by omega) (by decide) (fun σ8 g8 f8 => ?_)
      refine x_iinc (i := 1) (q := 1) (v := nI (k + 1)) (L' := [(1, .int (nI (k + 1))), (0, .ref el), (2, .int (nI e)), (3, .int (nI t))]) dJ8_circularClear_21 rfl (nI_1 _) (by decide) rfl ?_
      refine x_goto (tgt := 12) dJ8_circularClear_24 (by decide) ?_
      refine x_locs (L' := [(0, .ref el), (1, .int (nI (k + 1))), (2, .int (nI e)), (3, .int (nI t))]) [1, 0, 2, 3] rfl ?_
      exact ih (k + 1) t σ8 _ (by omega) ht hte g8 (fun r hr => (f8 r hr).trans (hfr r hr)) next
  have fin : ∀ (τ2 : AH) (g2 : Nat → Option Nat), τ2 el = some (.inl (5, 17, .inr (.inr (.inr (.inr g2))))) → (∀ r, r ≠ el → τ2 r = σ r) → X l yJ8_circularClear cJ8_circularClear 4 none [] G (yroom 0 0 0) (yEnd G (yroom 0 0 0) (PV fun τ => (∃ g : Nat → Option Nat, τ el = some (.inl (5, 17, .inr (.inr (.inr (.inr g)))))) ∧ ∀ r, r ≠ el → τ r = σ r)) 27 [(0, .ref el), (1, .int (nI e)), (2, .int (nI e)), (3, .int (nI e))] [] τ2 0 0 := by
    intro τ2 g2 hg hfr
    refine x_iload_n dJ8_circularClear_27 3 rfl rfl ?_
    refine x_iload_n dJ8_circularClear_28 2 rfl rfl ?_
    refine x_icmp_ne (tgt := 35) dJ8_circularClear_29 (by decide) (fun h_ => absurd (rfl) h_) (fun _ => ?_)
    refine x_goto (tgt := 42) dJ8_circularClear_32 (by decide) ?_
    exact x_vret dJ8_circularClear_42 rfl (⟨rfl, ⟨g2, hg⟩, hfr⟩)
  refine x_iload_n dJ8_circularClear_0 1 rfl rfl ?_
  refine x_iload_n dJ8_circularClear_1 2 rfl rfl ?_
  refine x_icmp_gt (tgt := 9) dJ8_circularClear_2 (by decide) (fun c1 => ?_) (fun c1 => ?_)
  · have c1 := nLt (by omega) (by omega) c1
    refine x_aload_n dJ8_circularClear_9 0 rfl rfl ?_
    refine x_alen (N := 0) (q0 := 5) (v := nI 17) dJ8_circularClear_10 hel rfl rfl ?_
    refine x_istore_n (i := 3) (L' := [(3, .int (nI 17)), (0, .ref el), (1, .int (nI i)), (2, .int (nI e))]) dJ8_circularClear_11 rfl (by decide) rfl ?_
    refine x_locs (L' := [(0, .ref el), (1, .int (nI i)), (2, .int (nI e)), (3, .int (nI 17))]) [1, 2, 3, 0] rfl ?_
    refine loop (17 - i) i 17 σ f (by omega) (Nat.le_refl _) (Or.inr rfl) hel (fun _ _ => rfl) (fun τ2 g2 hg hfr => ?_)
    refine x_iload_n dJ8_circularClear_27 3 rfl rfl ?_
    refine x_iload_n dJ8_circularClear_28 2 rfl rfl ?_
    refine x_icmp_ne (tgt := 35) dJ8_circularClear_29 (by decide) (fun _ => ?_) (fun h_ => absurd h_ (fun z => absurd (nEq (by omega) (by omega) z) (by omega)))
    refine x_iconst (v := nI 0) dJ8_circularClear_35 (by decide) ?_
    refine x_istore_n (i := 1) (L' := [(1, .int (nI 0)), (0, .ref el), (2, .int (nI e)), (3, .int (nI 17))]) dJ8_circularClear_36 rfl (by decide) rfl ?_
    refine x_iload_n dJ8_circularClear_37 2 rfl rfl ?_
    refine x_istore_n (i := 3) (L' := [(3, .int (nI e)), (1, .int (nI 0)), (0, .ref el), (2, .int (nI e))]) dJ8_circularClear_38 rfl (by decide) rfl ?_
    refine x_goto (tgt := 12) dJ8_circularClear_39 (by decide) ?_
    refine x_locs (L' := [(0, .ref el), (1, .int (nI 0)), (2, .int (nI e)), (3, .int (nI e))]) [2, 1, 3, 0] rfl ?_
    exact loop e 0 e τ2 g2 (Nat.zero_add _) (by omega) (Or.inl rfl) hg hfr fin
  · have c1 := nNlt (by omega) (by omega) c1
    refine x_iload_n dJ8_circularClear_5 2 rfl rfl ?_
    refine x_goto (tgt := 11) dJ8_circularClear_6 (by decide) ?_
    refine x_istore_n (i := 3) (L' := [(3, .int (nI e)), (0, .ref el), (1, .int (nI i)), (2, .int (nI e))]) dJ8_circularClear_11 rfl (by decide) rfl ?_
    refine x_locs (L' := [(0, .ref el), (1, .int (nI i)), (2, .int (nI e)), (3, .int (nI e))]) [1, 2, 3, 0] rfl ?_
    exact loop (e - i) i e σ f (by omega) (by omega) (Or.inl rfl) hel (fun _ _ => rfl) fin
set_option maxHeartbeats 4000000 in
set_option maxRecDepth 100000 in
theorem con_J8_clear {l : Launch} {G : YG} {σ : AH} {p el h : Nat} {ys : List Nat} (hA : AD σ p el h ys) : Con l yJ8_clear cJ8_clear 1 none G 1 0 0 [.ref p] σ (PV fun τ => AD τ p el 0 [] ∧ ∀ r, r ≠ p → r ≠ el → τ r = σ r) := by
  refine con_of (by decide) (Nat.le_of_ble_eq_true rfl) ?_
  refine x_locs (L' := [(0, .ref p)]) [0] rfl ?_
  have hpe := hA.ne
  have hA0 := hA
  obtain ⟨hp, ⟨f, hel, hf⟩, hl9, hh⟩ := hA
  refine x_aload_n dJ8_clear_0 0 rfl rfl ?_
  refine x_get dJ8_clear_1 vC_15 in_J8 hp 0 (by decide) q322 rfl ?_
  refine x_aload_n dJ8_clear_4 0 rfl rfl ?_
  refine x_get dJ8_clear_5 vC_15 in_J8 hp 1 (by decide) q325 rfl ?_
  refine x_aload_n dJ8_clear_8 0 rfl rfl ?_
  refine x_get dJ8_clear_9 vC_15 in_J8 hp 2 (by decide) q326 rfl ?_
  refine x_callS dJ8_clear_12 (con_J8_circularClear hel hh (Nat.mod_lt _ (by decide))) (lw_S q1867 q1868 q96 q1869) (np := 3) (by decide +kernel) rfl ⟨Nat.le_of_ble_eq_true rfl, Nat.le_of_ble_eq_true rfl⟩ (Nat.le_of_ble_eq_true rfl) rfl (by decide) (by decide) (rV fun σ1 h1 => ?_) nV'
  obtain ⟨⟨g, hg⟩, hfr⟩ := h1
  have hp := at_put hfr hp hpe
  refine x_aload_n dJ8_clear_15 0 rfl rfl ?_
  refine x_aload_n dJ8_clear_16 0 rfl rfl ?_
  refine x_iconst (v := nI 0) dJ8_clear_17 (by decide) ?_
  refine x_dup_x1 dJ8_clear_18 rfl rfl ?_
  refine x_put (fs' := [.ref el, .int (nI h), .int (nI 0)]) dJ8_clear_19 vC_15 in_J8 tyJ8_ok nmJ8 hp 2 (by decide) q326 rfl rfl (rfl) (rfl) (Nat.le_of_ble_eq_true rfl) rfl (fun σ3 hc5 hu4 => ?_)
  refine x_put (fs' := [.ref el, .int (nI 0), .int (nI 0)]) dJ8_clear_22 vC_15 in_J8 tyJ8_ok nmJ8 hc5 1 (by decide) q325 rfl rfl (rfl) (rfl) (Nat.le_of_ble_eq_true rfl) rfl (fun σ6 hc8 hu7 => ?_)
  exact x_vret dJ8_clear_25 rfl ⟨rfl, ⟨hc8, ⟨g, at_put hu7 (at_put hu4 hg (fun e => hpe e.symm)) (fun e => hpe e.symm), fun i x hx => by cases hx⟩, Nat.zero_le _, by decide⟩, fun r h1 h2 => (hu7 r h1).trans ((hu4 r h1).trans (hfr r h2))⟩
