set_option maxRecDepth 100000
set_option maxHeartbeats 4000000 in
set_option maxRecDepth 100000 in
theorem con_X2_waiting {l : Launch} {G : YG} {σ : AH} {a : Nat} {ad : Nat → Nat} {M : MS} {S : AS} (hM : MAt σ a ad M) (hG : GR (M.1 0) S) (hI : IV S) : Con l yX2_waiting cX2_waiting 3 (some FieldType.int) G 1 0 0 [.ref a] σ (PS σ (nI (nW S))) := by
  refine con_of (by decide) (Nat.le_of_ble_eq_true rfl) ?_
  refine x_locs (L' := [(0, .ref a)]) [0] rfl ?_
  refine x_iconst (v := nI 0) dX2_waiting_0 (by decide) ?_
  refine x_istore_n (i := 1) (L' := [(1, .int (nI 0)), (0, .ref a)]) dX2_waiting_1 rfl (by decide) rfl ?_
  refine x_iconst (v := nI 0) dX2_waiting_2 (by decide) ?_
  refine x_istore_n (i := 2) (L' := [(2, .int (nI 0)), (1, .int (nI 0)), (0, .ref a)]) dX2_waiting_3 rfl (by decide) rfl ?_
  refine x_locs (L' := [(0, .ref a), (1, .int (nI 0)), (2, .int (nI 0))]) [2, 1, 0] rfl ?_
  suffices loop : ∀ (d i : Nat), i + d = 8 → X l yX2_waiting cX2_waiting 3 (some FieldType.int) [] G (yroom 1 0 0) (yEnd G (yroom 1 0 0) (PS σ (nI (nW S)))) 4 [(0, .ref a), (1, .int (nI (sm (fun s => (qu S s).length) i))), (2, .int (nI i))] [] σ 0 0 from loop (8) 0 (Nat.zero_add _)
  intro d
  induction d with
  | zero =>
    intro i hi
    have hin : i = 8 := by omega
    subst hin
    refine x_iload_n dX2_waiting_4 2 rfl rfl ?_
    refine x_bipush (v := nI 8) dX2_waiting_5 (by decide) ?_
    refine x_icmp_ge (tgt := 25) dX2_waiting_7 (by decide) (fun _ => ?_) (fun h_ => absurd (by decide) h_)
    refine x_iload_n dX2_waiting_25 1 rfl rfl ?_
    exact x_iret dX2_waiting_26 rfl (pS' (by rfl))
  | succ d ih =>
    intro i hi
    refine x_iload_n dX2_waiting_4 2 rfl rfl ?_
    refine x_bipush (v := nI 8) dX2_waiting_5 (by decide) ?_
    refine x_icmp_ge (tgt := 25) dX2_waiting_7 (by decide) (fun h_ => absurd h_ (fun h => absurd (nLe (by omega) (by omega) h) (by omega))) (fun _ => ?_)
    refine x_iload_n dX2_waiting_10 1 rfl rfl ?_
    refine x_aload_n dX2_waiting_11 0 rfl rfl ?_
    refine x_iload_n dX2_waiting_12 2 rfl rfl ?_
    refine x_iconst (v := nI 2) dX2_waiting_13 (by decide) ?_
    refine x_callV dX2_waiting_14 (con_X2_shelf hM (s := i) (w := 2) (by omega) (by decide)) (lw_V q1989 q1991 qs49 q101 q1992) (np := 2) (by decide +kernel) rfl (rcv_of vC_2 hM.1) ⟨Nat.le_of_ble_eq_true rfl, Nat.le_of_ble_eq_true rfl⟩ (Nat.le_of_ble_eq_true rfl) rfl (by decide) (by decide) (rS ?_) nI'
    refine x_top (x' := nI (qu S i).length) ((hG.2.2.2.2.1 i (by omega)).2.2) ?_
    refine x_iadd dX2_waiting_17 ?_
    refine x_top (x' := nI (sm (fun s => (qu S s).length) i + ((qu S i).length))) (nI_add _ _) ?_
    refine x_istore_n (i := 1) (L' := [(1, .int (nI (sm (fun s => (qu S s).length) i + ((qu S i).length)))), (0, .ref a), (2, .int (nI i))]) dX2_waiting_18 rfl (by decide) rfl ?_
    refine x_iinc (i := 2) (q := 2) (v := nI (i + 1)) (L' := [(2, .int (nI (i + 1))), (1, .int (nI (sm (fun s => (qu S s).length) i + ((qu S i).length)))), (0, .ref a)]) dX2_waiting_19 rfl (nI_1 _) (by decide) rfl ?_
    refine x_goto (tgt := 4) dX2_waiting_22 (by decide) ?_
    refine x_locs (L' := [(0, .ref a), (1, .int (nI (sm (fun s => (qu S s).length) i + ((qu S i).length)))), (2, .int (nI (i + 1)))]) [2, 1, 0] rfl ?_
    exact ih (i + 1) (by omega)
set_option maxHeartbeats 4000000 in
set_option maxRecDepth 100000 in
theorem con_X2_locksThat {l : Launch} {G : YG} {σ : AH} {a : Nat} {ad : Nat → Nat} {M : MS} {S : AS} {t : Nat} (hM : MAt σ a ad M) (hG : GR (M.1 0) S) (hI : IV S) (ht : t < 3) : Con l yX2_locksThat cX2_locksThat 4 (some FieldType.int) G 1 0 0 [.ref a, .int (nI t)] σ (PS σ (nI (lkN S t))) := by
  refine con_of (by decide) (Nat.le_of_ble_eq_true rfl) ?_
  refine x_locs (L' := [(0, .ref a), (1, .int (nI t))]) [0, 1] rfl ?_
  rw [← lkN_eq]
  obtain ⟨F, hF⟩ : ∃ F : Nat → Bool, F = fun j => decide (t ≤ hw S (j / 8) (j % 8)) := ⟨_, rfl⟩
  rw [← hF]
  refine x_iconst (v := nI 0) dX2_locksThat_0 (by decide) ?_
  refine x_istore_n (i := 2) (L' := [(2, .int (nI 0)), (0, .ref a), (1, .int (nI t))]) dX2_locksThat_1 rfl (by decide) rfl ?_
  refine x_iconst (v := nI 0) dX2_locksThat_2 (by decide) ?_
  refine x_istore_n (i := 3) (L' := [(3, .int (nI 0)), (2, .int (nI 0)), (0, .ref a), (1, .int (nI t))]) dX2_locksThat_3 rfl (by decide) rfl ?_
  refine x_locs (L' := [(0, .ref a), (1, .int (nI t)), (2, .int (nI 0)), (3, .int (nI 0))]) [2, 3, 1, 0] rfl ?_
  suffices loop : ∀ (d i : Nat), i + d = 192 → X l yX2_locksThat cX2_locksThat 4 (some FieldType.int) [] G (yroom 1 0 0) (yEnd G (yroom 1 0 0) (PS σ (nI (cn F 192)))) 4 [(0, .ref a), (1, .int (nI t)), (2, .int (nI (cn F i))), (3, .int (nI i))] [] σ 0 0 from loop (192) 0 (Nat.zero_add _)
  intro d
  induction d with
  | zero =>
    intro i hi
    have hin : i = 192 := by omega
    subst hin
    refine x_iload_n dX2_locksThat_4 3 rfl rfl ?_
    refine x_sipush (v := nI 192) dX2_locksThat_5 (by decide) ?_
    refine x_icmp_ge (tgt := 39) dX2_locksThat_8 (by decide) (fun _ => ?_) (fun h_ => absurd (by decide) h_)
    refine x_iload_n dX2_locksThat_39 2 rfl rfl ?_
    exact x_iret dX2_locksThat_40 rfl (pS' (by rfl))
  | succ d ih =>
    intro i hi
    have h2 := hI.2.2.1 (i / 8) (i % 8)
    refine x_iload_n dX2_locksThat_4 3 rfl rfl ?_
    refine x_sipush (v := nI 192) dX2_locksThat_5 (by decide) ?_
    refine x_icmp_ge (tgt := 39) dX2_locksThat_8 (by decide) (fun h_ => absurd h_ (fun h => absurd (nLe (by omega) (by omega) h) (by omega))) (fun _ => ?_)
    refine x_iload_n dX2_locksThat_11 2 rfl rfl ?_
    refine x_aload_n dX2_locksThat_12 0 rfl rfl ?_
    refine x_get dX2_locksThat_13 vC_2 in_X2 hM.1 0 (by decide) q1876 rfl ?_
    refine x_sipush (v := nI 149) dX2_locksThat_16 (by decide) ?_
    refine x_iload_n dX2_locksThat_19 3 rfl rfl ?_
    refine x_iadd dX2_locksThat_20 ?_
    refine x_top (x' := nI (149 + i)) (nI_add _ _) ?_
    refine x_iald (N := 429) (j := 149 + i) (v := nI (hw S (i / 8) (i % 8))) dX2_locksThat_21 (hM.2.1 0 rfl) (rfl) (by omega) (by decide) (by have := hG.hwE (m := i / 8) (s := i % 8) (by omega) (by omega); rw [show 149 + 8 * (i / 8) + i % 8 = 149 + i by omega] at this; exact this) ?_
    refine x_iload_n dX2_locksThat_22 1 rfl rfl ?_
    refine x_icmp_lt (tgt := 30) dX2_locksThat_23 (by decide) (fun c1 => ?_) (fun c1 => ?_)
    · have hf : F i = false := by rw [hF]; exact decide_eq_false (by have := nLt (by omega) (by omega) c1; omega)
      refine x_iconst (v := nI 0) dX2_locksThat_30 (by decide) ?_
      refine x_iadd dX2_locksThat_31 ?_
      refine x_top (x' := nI (cn F i + 0)) (nI_add _ _) ?_
      refine x_istore_n (i := 2) (L' := [(2, .int (nI (cn F i + 0))), (0, .ref a), (1, .int (nI t)), (3, .int (nI i))]) dX2_locksThat_32 rfl (by decide) rfl ?_
      refine x_iinc (i := 3) (q := 3) (v := nI (i + 1)) (L' := [(3, .int (nI (i + 1))), (2, .int (nI (cn F i + 0))), (0, .ref a), (1, .int (nI t))]) dX2_locksThat_33 rfl (nI_1 _) (by decide) rfl ?_
      refine x_goto (tgt := 4) dX2_locksThat_36 (by decide) ?_
      refine x_locs (L' := [(0, .ref a), (1, .int (nI t)), (2, .int (nI (cn F i + 0))), (3, .int (nI (i + 1)))]) [2, 3, 1, 0] rfl ?_
      have := ih (i + 1) (by omega)
      rw [cn_f hf] at this
      exact this
    · have hf : F i = true := by rw [hF]; exact decide_eq_true (by have := nNlt (by omega) (by omega) c1; omega)
      refine x_iconst (v := nI 1) dX2_locksThat_26 (by decide) ?_
      refine x_goto (tgt := 31) dX2_locksThat_27 (by decide) ?_
      refine x_iadd dX2_locksThat_31 ?_
      refine x_top (x' := nI (cn F i + 1)) (nI_add _ _) ?_
      refine x_istore_n (i := 2) (L' := [(2, .int (nI (cn F i + 1))), (0, .ref a), (1, .int (nI t)), (3, .int (nI i))]) dX2_locksThat_32 rfl (by decide) rfl ?_
      refine x_iinc (i := 3) (q := 3) (v := nI (i + 1)) (L' := [(3, .int (nI (i + 1))), (2, .int (nI (cn F i + 1))), (0, .ref a), (1, .int (nI t))]) dX2_locksThat_33 rfl (nI_1 _) (by decide) rfl ?_
      refine x_goto (tgt := 4) dX2_locksThat_36 (by decide) ?_
      refine x_locs (L' := [(0, .ref a), (1, .int (nI t)), (2, .int (nI (cn F i + 1))), (3, .int (nI (i + 1)))]) [2, 3, 1, 0] rfl ?_
      have := ih (i + 1) (by omega)
      rw [cn_t hf] at this
      exact this
set_option maxHeartbeats 4000000 in
set_option maxRecDepth 100000 in
theorem con_X2_bare {l : Launch} {G : YG} {σ : AH} {a : Nat} {ad : Nat → Nat} {M : MS} {S : AS} (hM : MAt σ a ad M) (hG : GR (M.1 0) S) (hI : IV S) : Con l yX2_bare cX2_bare 3 (some FieldType.int) G 2 0 0 [.ref a] σ (PS σ (nI (bareN S))) := by
  refine con_of (by decide) (Nat.le_of_ble_eq_true rfl) ?_
  refine x_locs (L' := [(0, .ref a)]) [0] rfl ?_
  have hC := hI.c
  obtain ⟨F, hF⟩ : ∃ F : Nat → Bool, F = fun s => cn (heldF S s) (nC S) == 0 := ⟨_, rfl⟩
  have hb : bareN S = cn F 8 := by unfold bareN; rw [hF]
  rw [hb]
  refine x_iconst (v := nI 0) dX2_bare_0 (by decide) ?_
  refine x_istore_n (i := 1) (L' := [(1, .int (nI 0)), (0, .ref a)]) dX2_bare_1 rfl (by decide) rfl ?_
  refine x_iconst (v := nI 0) dX2_bare_2 (by decide) ?_
  refine x_istore_n (i := 2) (L' := [(2, .int (nI 0)), (1, .int (nI 0)), (0, .ref a)]) dX2_bare_3 rfl (by decide) rfl ?_
  refine x_locs (L' := [(0, .ref a), (1, .int (nI 0)), (2, .int (nI 0))]) [2, 1, 0] rfl ?_
  suffices loop : ∀ (d i : Nat), i + d = 8 → X l yX2_bare cX2_bare 3 (some FieldType.int) [] G (yroom 2 0 0) (yEnd G (yroom 2 0 0) (PS σ (nI (cn F 8)))) 4 [(0, .ref a), (1, .int (nI (cn F i))), (2, .int (nI i))] [] σ 0 0 from loop (8) 0 (Nat.zero_add _)
  intro d
  induction d with
  | zero =>
    intro i hi
    have hin : i = 8 := by omega
    subst hin
    refine x_iload_n dX2_bare_4 2 rfl rfl ?_
    refine x_bipush (v := nI 8) dX2_bare_5 (by decide) ?_
    refine x_icmp_ge (tgt := 32) dX2_bare_7 (by decide) (fun _ => ?_) (fun h_ => absurd (by decide) h_)
    refine x_iload_n dX2_bare_32 1 rfl rfl ?_
    exact x_iret dX2_bare_33 rfl (pS' (by rfl))
  | succ d ih =>
    intro i hi
    have hcn := cn_le (f := heldF S i) (n := nC S)
    refine x_iload_n dX2_bare_4 2 rfl rfl ?_
    refine x_bipush (v := nI 8) dX2_bare_5 (by decide) ?_
    refine x_icmp_ge (tgt := 32) dX2_bare_7 (by decide) (fun h_ => absurd h_ (fun h => absurd (nLe (by omega) (by omega) h) (by omega))) (fun _ => ?_)
    refine x_iload_n dX2_bare_10 1 rfl rfl ?_
    refine x_aload_n dX2_bare_11 0 rfl rfl ?_
    refine x_iload_n dX2_bare_12 2 rfl rfl ?_
    refine x_callV dX2_bare_13 (con_X2_holders hM hG hI (s := i) (by omega)) (lw_V q2081 q2083 qs66 q101 q2084) (np := 1) (by decide +kernel) rfl (rcv_of vC_2 hM.1) ⟨Nat.le_of_ble_eq_true rfl, Nat.le_of_ble_eq_true rfl⟩ (Nat.le_of_ble_eq_true rfl) rfl (by decide) (by decide) (rS ?_) nI'
    refine x_if_ne (tgt := 23) dX2_bare_16 (by decide) (fun c1 => ?_) (fun c1 => ?_)
    · have hf : F i = false := by rw [hF]; have := nN0 c1; simp [this]
      refine x_iconst (v := nI 0) dX2_bare_23 (by decide) ?_
      refine x_iadd dX2_bare_24 ?_
      refine x_top (x' := nI (cn F i + 0)) (nI_add _ _) ?_
      refine x_istore_n (i := 1) (L' := [(1, .int (nI (cn F i + 0))), (0, .ref a), (2, .int (nI i))]) dX2_bare_25 rfl (by decide) rfl ?_
      refine x_iinc (i := 2) (q := 2) (v := nI (i + 1)) (L' := [(2, .int (nI (i + 1))), (1, .int (nI (cn F i + 0))), (0, .ref a)]) dX2_bare_26 rfl (nI_1 _) (by decide) rfl ?_
      refine x_goto (tgt := 4) dX2_bare_29 (by decide) ?_
      refine x_locs (L' := [(0, .ref a), (1, .int (nI (cn F i + 0))), (2, .int (nI (i + 1)))]) [2, 1, 0] rfl ?_
      have := ih (i + 1) (by omega)
      rw [cn_f hf] at this
      exact this
    · have hf : F i = true := by rw [hF]; have := n0 (by omega) c1; simp [this]
      refine x_iconst (v := nI 1) dX2_bare_19 (by decide) ?_
      refine x_goto (tgt := 24) dX2_bare_20 (by decide) ?_
      refine x_iadd dX2_bare_24 ?_
      refine x_top (x' := nI (cn F i + 1)) (nI_add _ _) ?_
      refine x_istore_n (i := 1) (L' := [(1, .int (nI (cn F i + 1))), (0, .ref a), (2, .int (nI i))]) dX2_bare_25 rfl (by decide) rfl ?_
      refine x_iinc (i := 2) (q := 2) (v := nI (i + 1)) (L' := [(2, .int (nI (i + 1))), (1, .int (nI (cn F i + 1))), (0, .ref a)]) dX2_bare_26 rfl (nI_1 _) (by decide) rfl ?_
      refine x_goto (tgt := 4) dX2_bare_29 (by decide) ?_
      refine x_locs (L' := [(0, .ref a), (1, .int (nI (cn F i + 1))), (2, .int (nI (i + 1)))]) [2, 1, 0] rfl ?_
      have := ih (i + 1) (by omega)
      rw [cn_t hf] at this
      exact this
set_option maxHeartbeats 4000000 in
set_option maxRecDepth 100000 in
theorem con_X2_account {l : Launch} {G : YG} {σ : AH} {a : Nat} {ad : Nat → Nat} {M : MS} {S : AS} {tl pl : Nat} {u : Int32} (hM : MAt σ a ad M) (hG : GR (M.1 0) S) (hI : IV S) (hT : M.2 11 = nI tl) (hP : M.2 6 = nI pl) : Con l yX2_account cX2_account 2 (some FieldType.int) G 3 0 0 [.ref a, .int u] σ (PS σ (qAcc S tl pl u)) := by
  refine con_of (by decide) (Nat.le_of_ble_eq_true rfl) ?_
  refine x_locs (L' := [(0, .ref a), (1, .int u)]) [0, 1] rfl ?_
  have hE : nE S ≤ nC S := by have := hI.2.2.2.2.2.2.2.2.1; omega
  refine x_iload_n dX2_account_0 1 rfl rfl ?_
  by_cases e0 : u = nI 0
  · subst e0
    refine x_tableIn (off := 63) (tgt := 64) dX2_account_1 (by decide) (by decide) rfl (by decide) ?_
    refine x_aload_n dX2_account_64 0 rfl rfl ?_
    refine x_callV dX2_account_65 (con_X2_there hM hG hE) (lw_V q1940 q1942 qs40 q101 q1943) (np := 0) (by decide +kernel) rfl (rcv_of vC_2 hM.1) ⟨Nat.le_of_ble_eq_true rfl, Nat.le_of_ble_eq_true rfl⟩ (Nat.le_of_ble_eq_true rfl) rfl (by decide) (by decide) (rS ?_) nI'
    exact x_iret dX2_account_68 rfl (pS' (by rfl))
  by_cases e1 : u = nI 1
  · subst e1
    refine x_tableIn (off := 68) (tgt := 69) dX2_account_1 (by decide) (by decide) rfl (by decide) ?_
    refine x_aload_n dX2_account_69 0 rfl rfl ?_
    refine x_get dX2_account_70 vC_2 in_X2 hM.1 0 (by decide) q1876 rfl ?_
    refine x_iconst (v := nI 0) dX2_account_73 (by decide) ?_
    refine x_iald (N := 429) (j := 0) (v := nI (nC S)) dX2_account_74 (hM.2.1 0 rfl) (rfl) (by decide) (by decide) (hG.1.1) ?_
    exact x_iret dX2_account_75 rfl (pS' (by rfl))
  by_cases e2 : u = nI 2
  · subst e2
    refine x_tableIn (off := 75) (tgt := 76) dX2_account_1 (by decide) (by decide) rfl (by decide) ?_
    refine x_aload_n dX2_account_76 0 rfl rfl ?_
    refine x_callV dX2_account_77 (con_X2_waiting hM hG hI) (lw_V q2213 q2215 qs81 q101 q2216) (np := 0) (by decide +kernel) rfl (rcv_of vC_2 hM.1) ⟨Nat.le_of_ble_eq_true rfl, Nat.le_of_ble_eq_true rfl⟩ (Nat.le_of_ble_eq_true rfl) rfl (by decide) (by decide) (rS ?_) nI'
    exact x_iret dX2_account_80 rfl (pS' (by rfl))
  by_cases e3 : u = nI 3
  · subst e3
    refine x_tableIn (off := 80) (tgt := 81) dX2_account_1 (by decide) (by decide) rfl (by decide) ?_
    refine x_aload_n dX2_account_81 0 rfl rfl ?_
    refine x_iconst (v := nI 1) dX2_account_82 (by decide) ?_
    refine x_callV dX2_account_83 (con_X2_locksThat hM hG hI (t := 1) (by decide)) (lw_V q2217 q2219 qs82 q101 q2220) (np := 1) (by decide +kernel) rfl (rcv_of vC_2 hM.1) ⟨Nat.le_of_ble_eq_true rfl, Nat.le_of_ble_eq_true rfl⟩ (Nat.le_of_ble_eq_true rfl) rfl (by decide) (by decide) (rS ?_) nI'
    exact x_iret dX2_account_86 rfl (pS' (by rfl))
  by_cases e4 : u = nI 4
  · subst e4
    refine x_tableIn (off := 86) (tgt := 87) dX2_account_1 (by decide) (by decide) rfl (by decide) ?_
    refine x_aload_n dX2_account_87 0 rfl rfl ?_
    refine x_iconst (v := nI 2) dX2_account_88 (by decide) ?_
    refine x_callV dX2_account_89 (con_X2_locksThat hM hG hI (t := 2) (by decide)) (lw_V q2217 q2219 qs82 q101 q2220) (np := 1) (by decide +kernel) rfl (rcv_of vC_2 hM.1) ⟨Nat.le_of_ble_eq_true rfl, Nat.le_of_ble_eq_true rfl⟩ (Nat.le_of_ble_eq_true rfl) rfl (by decide) (by decide) (rS ?_) nI'
    exact x_iret dX2_account_92 rfl (pS' (by rfl))
  by_cases e5 : u = nI 5
  · subst e5
    refine x_tableIn (off := 92) (tgt := 93) dX2_account_1 (by decide) (by decide) rfl (by decide) ?_
    refine x_aload_n dX2_account_93 0 rfl rfl ?_
    refine x_get dX2_account_94 vC_2 in_X2 hM.1 0 (by decide) q1876 rfl ?_
    refine x_iconst (v := nI 2) dX2_account_97 (by decide) ?_
    refine x_iald (N := 429) (j := 2) (v := nI (sm (gN S) 8)) dX2_account_98 (hM.2.1 0 rfl) (rfl) (by decide) (by decide) (hG.1.2.2.1) ?_
    exact x_iret dX2_account_99 rfl (pS' (by rfl))
  by_cases e6 : u = nI 6
  · subst e6
    refine x_tableIn (off := 99) (tgt := 100) dX2_account_1 (by decide) (by decide) rfl (by decide) ?_
    refine x_aload_n dX2_account_100 0 rfl rfl ?_
    refine x_get dX2_account_101 vC_2 in_X2 hM.1 0 (by decide) q1876 rfl ?_
    refine x_iconst (v := nI 3) dX2_account_104 (by decide) ?_
    refine x_iald (N := 429) (j := 3) (v := nI (sm (wT S) 24)) dX2_account_105 (hM.2.1 0 rfl) (rfl) (by decide) (by decide) (hG.1.2.2.2.1) ?_
    exact x_iret dX2_account_106 rfl (pS' (by rfl))
  by_cases e7 : u = nI 7
  · subst e7
    refine x_tableIn (off := 106) (tgt := 107) dX2_account_1 (by decide) (by decide) rfl (by decide) ?_
    refine x_aload_n dX2_account_107 0 rfl rfl ?_
    refine x_get dX2_account_108 vC_2 in_X2 hM.1 0 (by decide) q1876 rfl ?_
    refine x_iconst (v := nI 4) dX2_account_111 (by decide) ?_
    refine x_iald (N := 429) (j := 4) (v := nI (sm (lG S) 24)) dX2_account_112 (hM.2.1 0 rfl) (rfl) (by decide) (by decide) (hG.1.2.2.2.2.1) ?_
    exact x_iret dX2_account_113 rfl (pS' (by rfl))
  by_cases e8 : u = nI 8
  · subst e8
    refine x_tableIn (off := 113) (tgt := 114) dX2_account_1 (by decide) (by decide) rfl (by decide) ?_
    refine x_aload_n dX2_account_114 0 rfl rfl ?_
    refine x_get dX2_account_115 vC_2 in_X2 hM.1 0 (by decide) q1876 rfl ?_
    refine x_iconst (v := nI 1) dX2_account_118 (by decide) ?_
    refine x_iald (N := 429) (j := 1) (v := nI (nE S)) dX2_account_119 (hM.2.1 0 rfl) (rfl) (by decide) (by decide) (hG.1.2.1) ?_
    exact x_iret dX2_account_120 rfl (pS' (by rfl))
  by_cases e9 : u = nI 9
  · subst e9
    refine x_tableIn (off := 120) (tgt := 121) dX2_account_1 (by decide) (by decide) rfl (by decide) ?_
    refine x_aload_n dX2_account_121 0 rfl rfl ?_
    refine x_callV dX2_account_122 (con_X2_bare hM hG hI) (lw_V q2221 q2223 qs83 q101 q2224) (np := 0) (by decide +kernel) rfl (rcv_of vC_2 hM.1) ⟨Nat.le_of_ble_eq_true rfl, Nat.le_of_ble_eq_true rfl⟩ (Nat.le_of_ble_eq_true rfl) rfl (by decide) (by decide) (rS ?_) nI'
    exact x_iret dX2_account_125 rfl (pS' (by rfl))
  by_cases e10 : u = nI 10
  · subst e10
    refine x_tableIn (off := 125) (tgt := 126) dX2_account_1 (by decide) (by decide) rfl (by decide) ?_
    refine x_aload_n dX2_account_126 0 rfl rfl ?_
    refine x_get dX2_account_127 vC_2 in_X2 hM.1 11 (by decide) q1887 rfl ?_
    refine x_top (x' := nI tl) (hT) ?_
    exact x_iret dX2_account_130 rfl (pS' (by rfl))
  by_cases e11 : u = nI 11
  · subst e11
    refine x_tableIn (off := 130) (tgt := 131) dX2_account_1 (by decide) (by decide) rfl (by decide) ?_
    refine x_aload_n dX2_account_131 0 rfl rfl ?_
    refine x_get dX2_account_132 vC_2 in_X2 hM.1 6 (by decide) q1882 rfl ?_
    refine x_top (x' := nI pl) (hP) ?_
    exact x_iret dX2_account_135 rfl (pS' (by rfl))
  refine x_tableOut (tgt := 136) dX2_account_1 (sw_out (n := 12) (by decide) (fun j hj => match j, hj with | 0, _ => e0 | 1, _ => e1 | 2, _ => e2 | 3, _ => e3 | 4, _ => e4 | 5, _ => e5 | 6, _ => e6 | 7, _ => e7 | 8, _ => e8 | 9, _ => e9 | 10, _ => e10 | 11, _ => e11 | _ + 12, hj => absurd hj (by omega))) (by decide) ?_
  refine x_bipush (v := (-12)) dX2_account_136 (by decide) ?_
  exact x_iret dX2_account_138 rfl (pS' (by unfold qAcc; rw [if_neg e0, if_neg e1, if_neg e2, if_neg e3, if_neg e4, if_neg e5, if_neg e6, if_neg e7, if_neg e8, if_neg e9, if_neg e10, if_neg e11]))
set_option maxHeartbeats 4000000 in
set_option maxRecDepth 100000 in
theorem con_X2_isNeeded {l : Launch} {G : YG} {σ : AH} {a : Nat} {ad : Nat → Nat} {M : MS} {S : AS} {x y : Nat} (hM : MAt σ a ad M) (hG : GR (M.1 0) S) (hI : IV S) (hx : x < 8) (hy : y < 8) : Con l yX2_isNeeded cX2_isNeeded 5 (some FieldType.boolean) G 2 0 0 [.ref a, .int (nI x), .int (nI y)] σ (PS σ (bI (isNd S x y))) := by
  refine con_of (by decide) (Nat.le_of_ble_eq_true rfl) ?_
  refine x_locs (L' := [(0, .ref a), (1, .int (nI x)), (2, .int (nI y))]) [0, 1, 2] rfl ?_
  have hC := hI.c
  have hlx := hI.len hx
  have hly := hI.len hy
  have hcx := cn_le (f := heldF S x) (n := nC S)
  have hcy := cn_le (f := heldF S y) (n := nC S)
  refine x_aload_n dX2_isNeeded_0 0 rfl rfl ?_
  refine x_iload_n dX2_isNeeded_1 1 rfl rfl ?_
  refine x_iconst (v := nI 2) dX2_isNeeded_2 (by decide) ?_
  refine x_callV dX2_isNeeded_3 (con_X2_shelf hM (s := x) (w := 2) hx (by decide)) (lw_V q1989 q1991 qs49 q101 q1992) (np := 2) (by decide +kernel) rfl (rcv_of vC_2 hM.1) ⟨Nat.le_of_ble_eq_true rfl, Nat.le_of_ble_eq_true rfl⟩ (Nat.le_of_ble_eq_true rfl) rfl (by decide) (by decide) (rS ?_) nI'
  refine x_top (x' := nI (qu S x).length) ((hG.2.2.2.2.1 x hx).2.2) ?_
  refine x_aload_n dX2_isNeeded_6 0 rfl rfl ?_
  refine x_iload_n dX2_isNeeded_7 2 rfl rfl ?_
  refine x_iconst (v := nI 2) dX2_isNeeded_8 (by decide) ?_
  refine x_callV dX2_isNeeded_9 (con_X2_shelf hM (s := y) (w := 2) hy (by decide)) (lw_V q1989 q1991 qs49 q101 q1992) (np := 2) (by decide +kernel) rfl (rcv_of vC_2 hM.1) ⟨Nat.le_of_ble_eq_true rfl, Nat.le_of_ble_eq_true rfl⟩ (Nat.le_of_ble_eq_true rfl) rfl (by decide) (by decide) (rS ?_) nI'
  refine x_top (x' := nI (qu S y).length) ((hG.2.2.2.2.1 y hy).2.2) ?_
  refine x_isub dX2_isNeeded_12 ?_
  refine x_istore_n (i := 3) (L' := [(3, .int ((nI (qu S x).length) - (nI (qu S y).length))), (0, .ref a), (1, .int (nI x)), (2, .int (nI y))]) dX2_isNeeded_13 rfl (by decide) rfl ?_
  refine x_iload_n dX2_isNeeded_14 0 rfl rfl ?_
  refine x_if_eq (tgt := 28) dX2_isNeeded_15 (by decide) (fun c1 => ?_) (fun c1 => ?_)
  · have c1 : (qu S x).length = (qu S y).length := (sb_eq (by omega) (by omega)).mp c1
    refine x_aload_n dX2_isNeeded_28 1 rfl rfl ?_
    refine x_iload_n dX2_isNeeded_29 2 rfl rfl ?_
    refine x_callV dX2_isNeeded_30 (con_X2_holders hM hG hI hx) (lw_V q2081 q2083 qs66 q101 q2084) (np := 1) (by decide +kernel) rfl (rcv_of vC_2 hM.1) ⟨Nat.le_of_ble_eq_true rfl, Nat.le_of_ble_eq_true rfl⟩ (Nat.le_of_ble_eq_true rfl) rfl (by decide) (by decide) (rS ?_) nI'
    refine x_aload_n dX2_isNeeded_33 1 rfl rfl ?_
    refine x_iload_n dX2_isNeeded_34 3 rfl rfl ?_
    refine x_callV dX2_isNeeded_35 (con_X2_holders hM hG hI hy) (lw_V q2081 q2083 qs66 q101 q2084) (np := 1) (by decide +kernel) rfl (rcv_of vC_2 hM.1) ⟨Nat.le_of_ble_eq_true rfl, Nat.le_of_ble_eq_true rfl⟩ (Nat.le_of_ble_eq_true rfl) rfl (by decide) (by decide) (rS ?_) nI'
    refine x_isub dX2_isNeeded_38 ?_
    refine x_istore (i := 4) (L' := [(4, .int ((nI (cn (heldF S x) (nC S))) - (nI (cn (heldF S y) (nC S))))), (3, .int ((nI (qu S x).length) - (nI (qu S y).length))), (0, .ref a), (1, .int (nI x)), (2, .int (nI y))]) dX2_isNeeded_39 (by decide) rfl ?_
    refine x_iload dX2_isNeeded_41 0 rfl ?_
    refine x_if_gt (tgt := 56) dX2_isNeeded_43 (by decide) (fun c2 => ?_) (fun c2 => ?_)
    · have c2 := (sb_gt (by omega) (by omega)).mp c2
      refine x_iconst (v := nI 1) dX2_isNeeded_56 (by decide) ?_
      refine x_goto (tgt := 61) dX2_isNeeded_57 (by decide) ?_
      exact x_zret dX2_isNeeded_61 rfl (rfl) (pS' (by rw [isNd_gt c1 c2]; rfl))
    · have c2 : ¬ cn (heldF S y) (nC S) < cn (heldF S x) (nC S) := fun z => c2 ((sb_gt (by omega) (by omega)).mpr z)
      refine x_iload dX2_isNeeded_46 0 rfl ?_
      refine x_if_ne (tgt := 60) dX2_isNeeded_48 (by decide) (fun c3 => ?_) (fun c3 => ?_)
      · have c3 : cn (heldF S x) (nC S) ≠ cn (heldF S y) (nC S) := fun z => c3 ((sb_eq (by omega) (by omega)).mpr z)
        refine x_iconst (v := nI 0) dX2_isNeeded_60 (by decide) ?_
        exact x_zret dX2_isNeeded_61 rfl (rfl) (pS' (by rw [isNd_lt c1 (by omega)]; rfl))
      · have c3 := (sb_eq (by omega) (by omega)).mp c3
        refine x_iload_n dX2_isNeeded_51 3 rfl rfl ?_
        refine x_iload_n dX2_isNeeded_52 4 rfl rfl ?_
        refine x_icmp_ge (tgt := 60) dX2_isNeeded_53 (by decide) (fun c4 => ?_) (fun c4 => ?_)
        · have c4 := nLe (by omega) (by omega) c4
          refine x_iconst (v := nI 0) dX2_isNeeded_60 (by decide) ?_
          exact x_zret dX2_isNeeded_61 rfl (rfl) (pS' (by rw [isNd_eq c1 c3, decide_eq_false (by omega)]; rfl))
        · have c4 := nNle (by omega) (by omega) c4
          refine x_iconst (v := nI 1) dX2_isNeeded_56 (by decide) ?_
          refine x_goto (tgt := 61) dX2_isNeeded_57 (by decide) ?_
          exact x_zret dX2_isNeeded_61 rfl (rfl) (pS' (by rw [isNd_eq c1 c3, decide_eq_true (by omega)]; rfl))
  · have c1 : (qu S x).length ≠ (qu S y).length := fun z => c1 ((sb_eq (by omega) (by omega)).mpr z)
    refine x_iload_n dX2_isNeeded_18 0 rfl rfl ?_
    refine x_if_le (tgt := 26) dX2_isNeeded_19 (by decide) (fun c2 => ?_) (fun c2 => ?_)
    · have c2 := (sb_le (by omega) (by omega)).mp c2
      refine x_iconst (v := nI 0) dX2_isNeeded_26 (by decide) ?_
      exact x_zret dX2_isNeeded_27 rfl (rfl) (pS' (by rw [isNd_ne c1, decide_eq_false (by omega)]; rfl))
    · have c2 : ¬ (qu S x).length ≤ (qu S y).length := fun z => c2 ((sb_le (by omega) (by omega)).mpr z)
      refine x_iconst (v := nI 1) dX2_isNeeded_22 (by decide) ?_
      refine x_goto (tgt := 27) dX2_isNeeded_23 (by decide) ?_
      exact x_zret dX2_isNeeded_27 rfl (rfl) (pS' (by rw [isNd_ne c1, decide_eq_true (by omega)]; rfl))
set_option maxHeartbeats 4000000 in
set_option maxRecDepth 100000 in
theorem con_X2_needed {l : Launch} {G : YG} {σ : AH} {a : Nat} {ad : Nat → Nat} {M : MS} {S : AS} {p : Int32} (hM : MAt σ a ad M) (hG : GR (M.1 0) S) (hI : IV S) : Con l yX2_needed cX2_needed 5 (some FieldType.int) G 3 0 0 [.ref a, .int p] σ (PS σ (qNeeded S p)) := by
  refine con_of (by decide) (Nat.le_of_ble_eq_true rfl) ?_
  refine x_locs (L' := [(0, .ref a), (1, .int p)]) [0, 1] rfl ?_
  have hC := hI.c
  refine x_iconst (v := nI 0) dX2_needed_0 (by decide) ?_
  refine x_istore_n (i := 2) (L' := [(2, .int (nI 0)), (0, .ref a), (1, .int p)]) dX2_needed_1 rfl (by decide) rfl ?_
  refine x_locs (L' := [(0, .ref a), (1, .int p), (2, .int (nI 0))]) [1, 2, 0] rfl ?_
  have inner : ∀ i, i < 8 → X l yX2_needed cX2_needed 5 (some FieldType.int) [] G (yroom 3 0 0) (yEnd G (yroom 3 0 0) (PS σ (qNeeded S p))) 44 [(0, .ref a), (1, .int p), (2, .int (nI i)), (3, .int (nI (cn (fun o => isNd S o i) 8))), (4, .int (nI 8))] [] σ 0 0 → ∀ (d j : Nat), j + d = 8 → X l yX2_needed cX2_needed 5 (some FieldType.int) [] G (yroom 3 0 0) (yEnd G (yroom 3 0 0) (PS σ (qNeeded S p))) 13 [(0, .ref a), (1, .int p), (2, .int (nI i)), (3, .int (nI (cn (fun o => isNd S o i) j))), (4, .int (nI j))] [] σ 0 0 := by
    intro i hi8 tail d
    induction d with
    | zero =>
      intro j hj
      have hj8 : j = 8 := by omega
      subst hj8
      refine x_iload dX2_needed_13 4 rfl ?_
      refine x_bipush (v := nI 8) dX2_needed_15 (by decide) ?_
      refine x_icmp_ge (tgt := 44) dX2_needed_17 (by decide) (fun _ => ?_) (fun h_ => absurd (by decide) h_)
      refine x_locs (L' := [(0, .ref a), (1, .int p), (2, .int (nI i)), (3, .int (nI (cn (fun o => isNd S o i) 8))), (4, .int (nI 8))]) [0, 1, 2, 3, 4] rfl ?_
      exact tail
    | succ d ih =>
      intro j hj
      refine x_iload dX2_needed_13 4 rfl ?_
      refine x_bipush (v := nI 8) dX2_needed_15 (by decide) ?_
      refine x_icmp_ge (tgt := 44) dX2_needed_17 (by decide) (fun h_ => absurd h_ (fun h => absurd (nLe (by omega) (by omega) h) (by omega))) (fun _ => ?_)
      refine x_iload_n dX2_needed_20 3 rfl rfl ?_
      refine x_aload_n dX2_needed_21 0 rfl rfl ?_
      refine x_iload dX2_needed_22 4 rfl ?_
      refine x_iload_n dX2_needed_24 2 rfl rfl ?_
      refine x_callV dX2_needed_25 (con_X2_isNeeded hM hG hI (x := j) (y := i) (by omega) hi8) (lw_V q2130 q2132 qs70 q101 q2133) (np := 2) (by decide +kernel) rfl (rcv_of vC_2 hM.1) ⟨Nat.le_of_ble_eq_true rfl, Nat.le_of_ble_eq_true rfl⟩ (Nat.le_of_ble_eq_true rfl) rfl (by decide) (by decide) (rS ?_) nI'
      refine x_if_eq (tgt := 35) dX2_needed_28 (by decide) (fun c1 => ?_) (fun c1 => ?_)
      · have hf := bI_0 c1
        refine x_iconst (v := nI 0) dX2_needed_35 (by decide) ?_
        refine x_iadd dX2_needed_36 ?_
        refine x_top (x' := nI (cn (fun o => isNd S o i) j + 0)) (nI_add _ _) ?_
        refine x_istore_n (i := 3) (L' := [(3, .int (nI (cn (fun o => isNd S o i) j + 0))), (0, .ref a), (1, .int p), (2, .int (nI i)), (4, .int (nI j))]) dX2_needed_37 rfl (by decide) rfl ?_
        refine x_iinc (i := 4) (q := 4) (v := nI (j + 1)) (L' := [(4, .int (nI (j + 1))), (3, .int (nI (cn (fun o => isNd S o i) j + 0))), (0, .ref a), (1, .int p), (2, .int (nI i))]) dX2_needed_38 rfl (nI_1 _) (by decide) rfl ?_
        refine x_goto (tgt := 13) dX2_needed_41 (by decide) ?_
        refine x_locs (L' := [(0, .ref a), (1, .int p), (2, .int (nI i)), (3, .int (nI (cn (fun o => isNd S o i) j + 0))), (4, .int (nI (j + 1)))]) [2, 3, 4, 1, 0] rfl ?_
        have := ih (j + 1) (by omega)
        rw [cn_f (f := fun o => isNd S o i) hf] at this
        exact this
      · have hf := bI_1 c1
        refine x_iconst (v := nI 1) dX2_needed_31 (by decide) ?_
        refine x_goto (tgt := 36) dX2_needed_32 (by decide) ?_
        refine x_iadd dX2_needed_36 ?_
        refine x_top (x' := nI (cn (fun o => isNd S o i) j + 1)) (nI_add _ _) ?_
        refine x_istore_n (i := 3) (L' := [(3, .int (nI (cn (fun o => isNd S o i) j + 1))), (0, .ref a), (1, .int p), (2, .int (nI i)), (4, .int (nI j))]) dX2_needed_37 rfl (by decide) rfl ?_
        refine x_iinc (i := 4) (q := 4) (v := nI (j + 1)) (L' := [(4, .int (nI (j + 1))), (3, .int (nI (cn (fun o => isNd S o i) j + 1))), (0, .ref a), (1, .int p), (2, .int (nI i))]) dX2_needed_38 rfl (nI_1 _) (by decide) rfl ?_
        refine x_goto (tgt := 13) dX2_needed_41 (by decide) ?_
        refine x_locs (L' := [(0, .ref a), (1, .int p), (2, .int (nI i)), (3, .int (nI (cn (fun o => isNd S o i) j + 1))), (4, .int (nI (j + 1)))]) [2, 3, 4, 1, 0] rfl ?_
        have := ih (j + 1) (by omega)
        rw [cn_t (f := fun o => isNd S o i) hf] at this
        exact this
  suffices loop : ∀ (d i : Nat), i + d = 8 → qNeeded S p = pickF (fun _ => true) (fun k => cn (fun o => isNd S o k) 8) p d i → X l yX2_needed cX2_needed 5 (some FieldType.int) [] G (yroom 3 0 0) (yEnd G (yroom 3 0 0) (PS σ (qNeeded S p))) 2 [(0, .ref a), (1, .int p), (2, .int (nI i))] [] σ 0 0 from loop 8 0 rfl rfl
  intro d
  induction d with
  | zero =>
    intro i hi hco
    have hi8 : i = 8 := by omega
    subst hi8
    refine x_iload_n dX2_needed_2 2 rfl rfl ?_
    refine x_bipush (v := nI 8) dX2_needed_3 (by decide) ?_
    refine x_icmp_ge (tgt := 57) dX2_needed_5 (by decide) (fun _ => ?_) (fun h_ => absurd (by decide) h_)
    refine x_bipush (v := (-11)) dX2_needed_57 (by decide) ?_
    exact x_iret dX2_needed_59 rfl (pS' (by rw [hco]; rfl))
  | succ d ih =>
    intro i hi hco
    refine x_iload_n dX2_needed_2 2 rfl rfl ?_
    refine x_bipush (v := nI 8) dX2_needed_3 (by decide) ?_
    refine x_icmp_ge (tgt := 57) dX2_needed_5 (by decide) (fun h_ => absurd h_ (fun h => absurd (nLe (by omega) (by omega) h) (by omega))) (fun _ => ?_)
    refine x_iconst (v := nI 0) dX2_needed_8 (by decide) ?_
    refine x_istore_n (i := 3) (L' := [(3, .int (nI 0)), (0, .ref a), (1, .int p), (2, .int (nI i))]) dX2_needed_9 rfl (by decide) rfl ?_
    refine x_iconst (v := nI 0) dX2_needed_10 (by decide) ?_
    refine x_istore (i := 4) (L' := [(4, .int (nI 0)), (3, .int (nI 0)), (0, .ref a), (1, .int p), (2, .int (nI i))]) dX2_needed_11 (by decide) rfl ?_
    refine x_locs (L' := [(0, .ref a), (1, .int p), (2, .int (nI i)), (3, .int (nI 0)), (4, .int (nI 0))]) [2, 3, 4, 1, 0] rfl ?_
    refine inner i (by omega) ?_ 8 0 rfl
    refine x_iload_n dX2_needed_44 3 rfl rfl ?_
    refine x_iload_n dX2_needed_45 1 rfl rfl ?_
    refine x_icmp_ne (tgt := 51) dX2_needed_46 (by decide) (fun c1 => ?_) (fun c1 => ?_)
    · refine x_iinc (i := 2) (q := 2) (v := nI (i + 1)) (L' := [(2, .int (nI (i + 1))), (0, .ref a), (1, .int p), (3, .int (nI (cn (fun o => isNd S o i) 8))), (4, .int (nI 8))]) dX2_needed_51 rfl (nI_1 _) (by decide) rfl ?_
      refine x_goto (tgt := 2) dX2_needed_54 (by decide) ?_
      refine x_locs (L' := [(0, .ref a), (1, .int p), (2, .int (nI (i + 1)))]) [1, 2, 0] rfl ?_
      exact ih (i + 1) (by omega) (hco.trans (pickF_n (g := (fun k => cn (fun o => isNd S o k) 8)) (Or.inr c1)))
    · refine x_iload_n dX2_needed_49 2 rfl rfl ?_
      exact x_iret dX2_needed_50 rfl (pS' (by rw [hco, pickF_y (g := (fun k => cn (fun o => isNd S o k) 8)) rfl c1]))
set_option maxHeartbeats 4000000 in
set_option maxRecDepth 100000 in
theorem con_X2_isAhead {l : Launch} {G : YG} {σ : AH} {a : Nat} {ad : Nat → Nat} {M : MS} {S : AS} {x y : Nat} (hM : MAt σ a ad M) (hG : GR (M.1 0) S) (hI : IV S) (hx : x < nC S) (hy : y < nC S) : Con l yX2_isAhead cX2_isAhead 5 (some FieldType.boolean) G 2 0 0 [.ref a, .int (nI x), .int (nI y)] σ (PS σ (bI (isAh S x y))) := by
  refine con_of (by decide) (Nat.le_of_ble_eq_true rfl) ?_
  refine x_locs (L' := [(0, .ref a), (1, .int (nI x)), (2, .int (nI y))]) [0, 1, 2] rfl ?_
  have hC := hI.c
  have hx24 : x < 24 := by omega
  have hy24 : y < 24 := by omega
  have hcx := cn_le (f := lockF S x) (n := 8)
  have hcy := cn_le (f := lockF S y) (n := 8)
  refine x_aload_n dX2_isAhead_0 0 rfl rfl ?_
  refine x_iload_n dX2_isAhead_1 1 rfl rfl ?_
  refine x_callV dX2_isAhead_2 (con_X2_locksOf hM hG hI hx24) (lw_V q2065 q2067 qs64 q101 q2068) (np := 1) (by decide +kernel) rfl (rcv_of vC_2 hM.1) ⟨Nat.le_of_ble_eq_true rfl, Nat.le_of_ble_eq_true rfl⟩ (Nat.le_of_ble_eq_true rfl) rfl (by decide) (by decide) (rS ?_) nI'
  refine x_aload_n dX2_isAhead_5 0 rfl rfl ?_
  refine x_iload_n dX2_isAhead_6 2 rfl rfl ?_
  refine x_callV dX2_isAhead_7 (con_X2_locksOf hM hG hI hy24) (lw_V q2065 q2067 qs64 q101 q2068) (np := 1) (by decide +kernel) rfl (rcv_of vC_2 hM.1) ⟨Nat.le_of_ble_eq_true rfl, Nat.le_of_ble_eq_true rfl⟩ (Nat.le_of_ble_eq_true rfl) rfl (by decide) (by decide) (rS ?_) nI'
  refine x_isub dX2_isAhead_10 ?_
  refine x_istore_n (i := 3) (L' := [(3, .int ((nI (cn (lockF S x) 8)) - (nI (cn (lockF S y) 8)))), (0, .ref a), (1, .int (nI x)), (2, .int (nI y))]) dX2_isAhead_11 rfl (by decide) rfl ?_
  refine x_iload_n dX2_isAhead_12 0 rfl rfl ?_
  refine x_if_eq (tgt := 26) dX2_isAhead_13 (by decide) (fun c1 => ?_) (fun c1 => ?_)
  · have c1 : cn (lockF S x) 8 = cn (lockF S y) 8 := (sb_eq (by omega) (by omega)).mp c1
    cases hxx : aAt S x with
    | none =>
      cases hyy : aAt S y with
      | none =>
        refine x_aload_n dX2_isAhead_26 1 rfl rfl ?_
        refine x_iload_n dX2_isAhead_27 2 rfl rfl ?_
        refine x_iconst (v := nI 1) dX2_isAhead_28 (by decide) ?_
        refine x_callV dX2_isAhead_29 (con_X2_of hM (m := x) (w := 1) (by omega) (by decide)) (lw_V q1966 q1968 qs44 q101 q1969) (np := 2) (by decide +kernel) rfl (rcv_of vC_2 hM.1) ⟨Nat.le_of_ble_eq_true rfl, Nat.le_of_ble_eq_true rfl⟩ (Nat.le_of_ble_eq_true rfl) rfl (by decide) (by decide) (rS ?_) nI'
        refine x_top (x' := atI S x) ((hG.2.2.1 x hx).1) ?_
        refine x_if_ge (tgt := 39) dX2_isAhead_32 (by decide) (fun h_ => absurd h_ (by rw [atI_none hxx]; decide)) (fun _ => ?_)
        refine x_iconst (v := nI 1) dX2_isAhead_35 (by decide) ?_
        refine x_goto (tgt := 40) dX2_isAhead_36 (by decide) ?_
        refine x_istore (i := 4) (L' := [(4, .int (nI 1)), (3, .int ((nI (cn (lockF S x) 8)) - (nI (cn (lockF S y) 8)))), (0, .ref a), (1, .int (nI x)), (2, .int (nI y))]) dX2_isAhead_40 (by decide) rfl ?_
        refine x_iload dX2_isAhead_42 0 rfl ?_
        refine x_aload_n dX2_isAhead_44 2 rfl rfl ?_
        refine x_iload_n dX2_isAhead_45 4 rfl rfl ?_
        refine x_iconst (v := nI 1) dX2_isAhead_46 (by decide) ?_
        refine x_callV dX2_isAhead_47 (con_X2_of hM (m := y) (w := 1) (by omega) (by decide)) (lw_V q1966 q1968 qs44 q101 q1969) (np := 2) (by decide +kernel) rfl (rcv_of vC_2 hM.1) ⟨Nat.le_of_ble_eq_true rfl, Nat.le_of_ble_eq_true rfl⟩ (Nat.le_of_ble_eq_true rfl) rfl (by decide) (by decide) (rS ?_) nI'
        refine x_top (x' := atI S y) ((hG.2.2.1 y hy).1) ?_
        refine x_if_ge (tgt := 57) dX2_isAhead_50 (by decide) (fun h_ => absurd h_ (by rw [atI_none hyy]; decide)) (fun _ => ?_)
        refine x_iconst (v := nI 1) dX2_isAhead_53 (by decide) ?_
        refine x_goto (tgt := 58) dX2_isAhead_54 (by decide) ?_
        refine x_icmp_eq (tgt := 66) dX2_isAhead_58 (by decide) (fun _ => ?_) (fun h_ => absurd (rfl) h_)
        refine x_iload_n dX2_isAhead_66 3 rfl rfl ?_
        refine x_iload_n dX2_isAhead_67 4 rfl rfl ?_
        refine x_icmp_le (tgt := 75) dX2_isAhead_68 (by decide) (fun c3 => ?_) (fun c3 => ?_)
        · have c3 := nLe (by omega) (by omega) c3
          have ha : isAh S x y = decide (y < x) := by rw [isAh_eq c1, hxx, hyy]; rfl
          refine x_iconst (v := nI 0) dX2_isAhead_75 (by decide) ?_
          exact x_zret dX2_isAhead_76 rfl (rfl) (pS' (by rw [ha, decide_eq_false (by omega)]; rfl))
        · have c3 := nNle (by omega) (by omega) c3
          have ha : isAh S x y = decide (y < x) := by rw [isAh_eq c1, hxx, hyy]; rfl
          refine x_iconst (v := nI 1) dX2_isAhead_71 (by decide) ?_
          refine x_goto (tgt := 76) dX2_isAhead_72 (by decide) ?_
          exact x_zret dX2_isAhead_76 rfl (rfl) (pS' (by rw [ha, decide_eq_true (by omega)]; rfl))
      | some s2 =>
        refine x_aload_n dX2_isAhead_26 1 rfl rfl ?_
        refine x_iload_n dX2_isAhead_27 2 rfl rfl ?_
        refine x_iconst (v := nI 1) dX2_isAhead_28 (by decide) ?_
        refine x_callV dX2_isAhead_29 (con_X2_of hM (m := x) (w := 1) (by omega) (by decide)) (lw_V q1966 q1968 qs44 q101 q1969) (np := 2) (by decide +kernel) rfl (rcv_of vC_2 hM.1) ⟨Nat.le_of_ble_eq_true rfl, Nat.le_of_ble_eq_true rfl⟩ (Nat.le_of_ble_eq_true rfl) rfl (by decide) (by decide) (rS ?_) nI'
        refine x_top (x' := atI S x) ((hG.2.2.1 x hx).1) ?_
        refine x_if_ge (tgt := 39) dX2_isAhead_32 (by decide) (fun h_ => absurd h_ (by rw [atI_none hxx]; decide)) (fun _ => ?_)
        refine x_iconst (v := nI 1) dX2_isAhead_35 (by decide) ?_
        refine x_goto (tgt := 40) dX2_isAhead_36 (by decide) ?_
        refine x_istore (i := 4) (L' := [(4, .int (nI 1)), (3, .int ((nI (cn (lockF S x) 8)) - (nI (cn (lockF S y) 8)))), (0, .ref a), (1, .int (nI x)), (2, .int (nI y))]) dX2_isAhead_40 (by decide) rfl ?_
        refine x_iload dX2_isAhead_42 0 rfl ?_
        refine x_aload_n dX2_isAhead_44 2 rfl rfl ?_
        refine x_iload_n dX2_isAhead_45 4 rfl rfl ?_
        refine x_iconst (v := nI 1) dX2_isAhead_46 (by decide) ?_
        refine x_callV dX2_isAhead_47 (con_X2_of hM (m := y) (w := 1) (by omega) (by decide)) (lw_V q1966 q1968 qs44 q101 q1969) (np := 2) (by decide +kernel) rfl (rcv_of vC_2 hM.1) ⟨Nat.le_of_ble_eq_true rfl, Nat.le_of_ble_eq_true rfl⟩ (Nat.le_of_ble_eq_true rfl) rfl (by decide) (by decide) (rS ?_) nI'
        refine x_top (x' := atI S y) ((hG.2.2.1 y hy).1) ?_
        refine x_if_ge (tgt := 57) dX2_isAhead_50 (by decide) (fun _ => ?_) (fun h_ => absurd (by rw [atI_some hyy]; exact nI_pos' (by have := (aAt_some hyy).1; omega)) h_)
        refine x_iconst (v := nI 0) dX2_isAhead_57 (by decide) ?_
        refine x_icmp_eq (tgt := 66) dX2_isAhead_58 (by decide) (fun h_ => absurd h_ (by decide)) (fun _ => ?_)
        refine x_iload dX2_isAhead_61 0 rfl ?_
        refine x_goto (tgt := 76) dX2_isAhead_63 (by decide) ?_
        exact x_zret dX2_isAhead_76 rfl (rfl) (pS' (by rw [isAh_eq c1, hxx, hyy]; rfl))
    | some s1 =>
      cases hyy : aAt S y with
      | none =>
        refine x_aload_n dX2_isAhead_26 1 rfl rfl ?_
        refine x_iload_n dX2_isAhead_27 2 rfl rfl ?_
        refine x_iconst (v := nI 1) dX2_isAhead_28 (by decide) ?_
        refine x_callV dX2_isAhead_29 (con_X2_of hM (m := x) (w := 1) (by omega) (by decide)) (lw_V q1966 q1968 qs44 q101 q1969) (np := 2) (by decide +kernel) rfl (rcv_of vC_2 hM.1) ⟨Nat.le_of_ble_eq_true rfl, Nat.le_of_ble_eq_true rfl⟩ (Nat.le_of_ble_eq_true rfl) rfl (by decide) (by decide) (rS ?_) nI'
        refine x_top (x' := atI S x) ((hG.2.2.1 x hx).1) ?_
        refine x_if_ge (tgt := 39) dX2_isAhead_32 (by decide) (fun _ => ?_) (fun h_ => absurd (by rw [atI_some hxx]; exact nI_pos' (by have := (aAt_some hxx).1; omega)) h_)
        refine x_iconst (v := nI 0) dX2_isAhead_39 (by decide) ?_
        refine x_istore (i := 4) (L' := [(4, .int (nI 0)), (3, .int ((nI (cn (lockF S x) 8)) - (nI (cn (lockF S y) 8)))), (0, .ref a), (1, .int (nI x)), (2, .int (nI y))]) dX2_isAhead_40 (by decide) rfl ?_
        refine x_iload dX2_isAhead_42 0 rfl ?_
        refine x_aload_n dX2_isAhead_44 2 rfl rfl ?_
        refine x_iload_n dX2_isAhead_45 4 rfl rfl ?_
        refine x_iconst (v := nI 1) dX2_isAhead_46 (by decide) ?_
        refine x_callV dX2_isAhead_47 (con_X2_of hM (m := y) (w := 1) (by omega) (by decide)) (lw_V q1966 q1968 qs44 q101 q1969) (np := 2) (by decide +kernel) rfl (rcv_of vC_2 hM.1) ⟨Nat.le_of_ble_eq_true rfl, Nat.le_of_ble_eq_true rfl⟩ (Nat.le_of_ble_eq_true rfl) rfl (by decide) (by decide) (rS ?_) nI'
        refine x_top (x' := atI S y) ((hG.2.2.1 y hy).1) ?_
        refine x_if_ge (tgt := 57) dX2_isAhead_50 (by decide) (fun h_ => absurd h_ (by rw [atI_none hyy]; decide)) (fun _ => ?_)
        refine x_iconst (v := nI 1) dX2_isAhead_53 (by decide) ?_
        refine x_goto (tgt := 58) dX2_isAhead_54 (by decide) ?_
        refine x_icmp_eq (tgt := 66) dX2_isAhead_58 (by decide) (fun h_ => absurd h_ (by decide)) (fun _ => ?_)
        refine x_iload dX2_isAhead_61 0 rfl ?_
        refine x_goto (tgt := 76) dX2_isAhead_63 (by decide) ?_
        exact x_zret dX2_isAhead_76 rfl (rfl) (pS' (by rw [isAh_eq c1, hxx, hyy]; rfl))
      | some s2 =>
        refine x_aload_n dX2_isAhead_26 1 rfl rfl ?_
        refine x_iload_n dX2_isAhead_27 2 rfl rfl ?_
        refine x_iconst (v := nI 1) dX2_isAhead_28 (by decide) ?_
        refine x_callV dX2_isAhead_29 (con_X2_of hM (m := x) (w := 1) (by omega) (by decide)) (lw_V q1966 q1968 qs44 q101 q1969) (np := 2) (by decide +kernel) rfl (rcv_of vC_2 hM.1) ⟨Nat.le_of_ble_eq_true rfl, Nat.le_of_ble_eq_true rfl⟩ (Nat.le_of_ble_eq_true rfl) rfl (by decide) (by decide) (rS ?_) nI'
        refine x_top (x' := atI S x) ((hG.2.2.1 x hx).1) ?_
        refine x_if_ge (tgt := 39) dX2_isAhead_32 (by decide) (fun _ => ?_) (fun h_ => absurd (by rw [atI_some hxx]; exact nI_pos' (by have := (aAt_some hxx).1; omega)) h_)
        refine x_iconst (v := nI 0) dX2_isAhead_39 (by decide) ?_
        refine x_istore (i := 4) (L' := [(4, .int (nI 0)), (3, .int ((nI (cn (lockF S x) 8)) - (nI (cn (lockF S y) 8)))), (0, .ref a), (1, .int (nI x)), (2, .int (nI y))]) dX2_isAhead_40 (by decide) rfl ?_
        refine x_iload dX2_isAhead_42 0 rfl ?_
        refine x_aload_n dX2_isAhead_44 2 rfl rfl ?_
        refine x_iload_n dX2_isAhead_45 4 rfl rfl ?_
        refine x_iconst (v := nI 1) dX2_isAhead_46 (by decide) ?_
        refine x_callV dX2_isAhead_47 (con_X2_of hM (m := y) (w := 1) (by omega) (by decide)) (lw_V q1966 q1968 qs44 q101 q1969) (np := 2) (by decide +kernel) rfl (rcv_of vC_2 hM.1) ⟨Nat.le_of_ble_eq_true rfl, Nat.le_of_ble_eq_true rfl⟩ (Nat.le_of_ble_eq_true rfl) rfl (by decide) (by decide) (rS ?_) nI'
        refine x_top (x' := atI S y) ((hG.2.2.1 y hy).1) ?_
        refine x_if_ge (tgt := 57) dX2_isAhead_50 (by decide) (fun _ => ?_) (fun h_ => absurd (by rw [atI_some hyy]; exact nI_pos' (by have := (aAt_some hyy).1; omega)) h_)
        refine x_iconst (v := nI 0) dX2_isAhead_57 (by decide) ?_
        refine x_icmp_eq (tgt := 66) dX2_isAhead_58 (by decide) (fun _ => ?_) (fun h_ => absurd (rfl) h_)
        refine x_iload_n dX2_isAhead_66 3 rfl rfl ?_
        refine x_iload_n dX2_isAhead_67 4 rfl rfl ?_
        refine x_icmp_le (tgt := 75) dX2_isAhead_68 (by decide) (fun c3 => ?_) (fun c3 => ?_)
        · have c3 := nLe (by omega) (by omega) c3
          have ha : isAh S x y = decide (y < x) := by rw [isAh_eq c1, hxx, hyy]; rfl
          refine x_iconst (v := nI 0) dX2_isAhead_75 (by decide) ?_
          exact x_zret dX2_isAhead_76 rfl (rfl) (pS' (by rw [ha, decide_eq_false (by omega)]; rfl))
        · have c3 := nNle (by omega) (by omega) c3
          have ha : isAh S x y = decide (y < x) := by rw [isAh_eq c1, hxx, hyy]; rfl
          refine x_iconst (v := nI 1) dX2_isAhead_71 (by decide) ?_
          refine x_goto (tgt := 76) dX2_isAhead_72 (by decide) ?_
          exact x_zret dX2_isAhead_76 rfl (rfl) (pS' (by rw [ha, decide_eq_true (by omega)]; rfl))
  · have c1 : cn (lockF S x) 8 ≠ cn (lockF S y) 8 := fun z => c1 ((sb_eq (by omega) (by omega)).mpr z)
    refine x_iload_n dX2_isAhead_16 0 rfl rfl ?_
    refine x_if_le (tgt := 24) dX2_isAhead_17 (by decide) (fun c2 => ?_) (fun c2 => ?_)
    · have c2 := (sb_le (by omega) (by omega)).mp c2
      refine x_iconst (v := nI 0) dX2_isAhead_24 (by decide) ?_
      exact x_zret dX2_isAhead_25 rfl (rfl) (pS' (by rw [isAh_ne c1, decide_eq_false (by omega)]; rfl))
    · have c2 : ¬ cn (lockF S x) 8 ≤ cn (lockF S y) 8 := fun z => c2 ((sb_le (by omega) (by omega)).mpr z)
      refine x_iconst (v := nI 1) dX2_isAhead_20 (by decide) ?_
      refine x_goto (tgt := 25) dX2_isAhead_21 (by decide) ?_
      exact x_zret dX2_isAhead_25 rfl (rfl) (pS' (by rw [isAh_ne c1, decide_eq_true (by omega)]; rfl))
set_option maxHeartbeats 4000000 in
set_option maxRecDepth 100000 in
theorem con_X2_ranked {l : Launch} {G : YG} {σ : AH} {a : Nat} {ad : Nat → Nat} {M : MS} {S : AS} {p : Int32} (hM : MAt σ a ad M) (hG : GR (M.1 0) S) (hI : IV S) : Con l yX2_ranked cX2_ranked 5 (some FieldType.int) G 3 0 0 [.ref a, .int p] σ (PS σ (qRanked S p)) := by
  refine con_of (by decide) (Nat.le_of_ble_eq_true rfl) ?_
  refine x_locs (L' := [(0, .ref a), (1, .int p)]) [0, 1] rfl ?_
  have hC := hI.c
  refine x_iconst (v := nI 0) dX2_ranked_0 (by decide) ?_
  refine x_istore_n (i := 2) (L' := [(2, .int (nI 0)), (0, .ref a), (1, .int p)]) dX2_ranked_1 rfl (by decide) rfl ?_
  refine x_locs (L' := [(0, .ref a), (1, .int p), (2, .int (nI 0))]) [1, 2, 0] rfl ?_
  have inner : ∀ i, i < nC S → X l yX2_ranked cX2_ranked 5 (some FieldType.int) [] G (yroom 3 0 0) (yEnd G (yroom 3 0 0) (PS σ (qRanked S p))) 72 [(0, .ref a), (1, .int p), (2, .int (nI i)), (3, .int (nI (cn (fun o => tH S o && isAh S o i) (nC S)))), (4, .int (nI (nC S)))] [] σ 0 0 → ∀ (d j : Nat), j + d = nC S → X l yX2_ranked cX2_ranked 5 (some FieldType.int) [] G (yroom 3 0 0) (yEnd G (yroom 3 0 0) (PS σ (qRanked S p))) 28 [(0, .ref a), (1, .int p), (2, .int (nI i)), (3, .int (nI (cn (fun o => tH S o && isAh S o i) j))), (4, .int (nI j))] [] σ 0 0 := by
    intro i hi8 tail d
    induction d with
    | zero =>
      intro j hj
      have hj8 : j = nC S := by omega
      subst hj8
      refine x_iload dX2_ranked_28 4 rfl ?_
      refine x_aload_n dX2_ranked_30 0 rfl rfl ?_
      refine x_get dX2_ranked_31 vC_2 in_X2 hM.1 0 (by decide) q1876 rfl ?_
      refine x_iconst (v := nI 0) dX2_ranked_34 (by decide) ?_
      refine x_iald (N := 429) (j := 0) (v := nI (nC S)) dX2_ranked_35 (hM.2.1 0 rfl) (rfl) (by decide) (by decide) (hG.c) ?_
      refine x_icmp_ge (tgt := 72) dX2_ranked_36 (by decide) (fun _ => ?_) (fun h_ => absurd ((nI_leI (by omega) (by omega)).mpr (Nat.le_refl _)) h_)
      refine x_locs (L' := [(0, .ref a), (1, .int p), (2, .int (nI i)), (3, .int (nI (cn (fun o => tH S o && isAh S o i) (nC S)))), (4, .int (nI (nC S)))]) [0, 1, 2, 3, 4] rfl ?_
      exact tail
    | succ d ih =>
      intro j hj
      refine x_iload dX2_ranked_28 4 rfl ?_
      refine x_aload_n dX2_ranked_30 0 rfl rfl ?_
      refine x_get dX2_ranked_31 vC_2 in_X2 hM.1 0 (by decide) q1876 rfl ?_
      refine x_iconst (v := nI 0) dX2_ranked_34 (by decide) ?_
      refine x_iald (N := 429) (j := 0) (v := nI (nC S)) dX2_ranked_35 (hM.2.1 0 rfl) (rfl) (by decide) (by decide) (hG.c) ?_
      refine x_icmp_ge (tgt := 72) dX2_ranked_36 (by decide) (fun h_ => absurd h_ (fun h => absurd (nLe (by omega) (by omega) h) (by omega))) (fun _ => ?_)
      refine x_iload_n dX2_ranked_39 3 rfl rfl ?_
      refine x_aload_n dX2_ranked_40 0 rfl rfl ?_
      refine x_iload dX2_ranked_41 4 rfl ?_
      refine x_callV dX2_ranked_43 (con_X2_isMaid hM hG hI (v := nI j)) (lw_V q1959 q1961 qs43 q101 q1962) (np := 1) (by decide +kernel) rfl (rcv_of vC_2 hM.1) ⟨Nat.le_of_ble_eq_true rfl, Nat.le_of_ble_eq_true rfl⟩ (Nat.le_of_ble_eq_true rfl) rfl (by decide) (by decide) (rS ?_) nI'
      refine x_top (x' := bI (tH S j)) (by rw [isT_nI hC (by omega)]) ?_
      refine x_if_eq (tgt := 63) dX2_ranked_46 (by decide) (fun c1 => ?_) (fun c1 => ?_)
      · have hf : (fun o => tH S o && isAh S o i) j = false := by show (tH S j && _) = false; rw [bI_0 c1]; rfl
        refine x_iconst (v := nI 0) dX2_ranked_63 (by decide) ?_
        refine x_iadd dX2_ranked_64 ?_
        refine x_top (x' := nI (cn (fun o => tH S o && isAh S o i) j + 0)) (nI_add _ _) ?_
        refine x_istore_n (i := 3) (L' := [(3, .int (nI (cn (fun o => tH S o && isAh S o i) j + 0))), (0, .ref a), (1, .int p), (2, .int (nI i)), (4, .int (nI j))]) dX2_ranked_65 rfl (by decide) rfl ?_
        refine x_iinc (i := 4) (q := 4) (v := nI (j + 1)) (L' := [(4, .int (nI (j + 1))), (3, .int (nI (cn (fun o => tH S o && isAh S o i) j + 0))), (0, .ref a), (1, .int p), (2, .int (nI i))]) dX2_ranked_66 rfl (nI_1 _) (by decide) rfl ?_
        refine x_goto (tgt := 28) dX2_ranked_69 (by decide) ?_
        refine x_locs (L' := [(0, .ref a), (1, .int p), (2, .int (nI i)), (3, .int (nI (cn (fun o => tH S o && isAh S o i) j + 0))), (4, .int (nI (j + 1)))]) [2, 3, 4, 1, 0] rfl ?_
        have := ih (j + 1) (by omega)
        rw [cn_f (f := (fun o => tH S o && isAh S o i)) hf] at this
        exact this
      · refine x_aload_n dX2_ranked_49 0 rfl rfl ?_
        refine x_iload dX2_ranked_50 4 rfl ?_
        refine x_iload_n dX2_ranked_52 2 rfl rfl ?_
        refine x_callV dX2_ranked_53 (con_X2_isAhead hM hG hI (x := j) (y := i) (by omega) hi8) (lw_V q2138 q2140 qs71 q101 q2141) (np := 2) (by decide +kernel) rfl (rcv_of vC_2 hM.1) ⟨Nat.le_of_ble_eq_true rfl, Nat.le_of_ble_eq_true rfl⟩ (Nat.le_of_ble_eq_true rfl) rfl (by decide) (by decide) (rS ?_) nI'
        refine x_if_eq (tgt := 63) dX2_ranked_56 (by decide) (fun c2 => ?_) (fun c2 => ?_)
        · have hf : (fun o => tH S o && isAh S o i) j = false := by show (tH S j && isAh S j i) = false; rw [bI_0 c2]; simp
          refine x_iconst (v := nI 0) dX2_ranked_63 (by decide) ?_
          refine x_iadd dX2_ranked_64 ?_
          refine x_top (x' := nI (cn (fun o => tH S o && isAh S o i) j + 0)) (nI_add _ _) ?_
          refine x_istore_n (i := 3) (L' := [(3, .int (nI (cn (fun o => tH S o && isAh S o i) j + 0))), (0, .ref a), (1, .int p), (2, .int (nI i)), (4, .int (nI j))]) dX2_ranked_65 rfl (by decide) rfl ?_
          refine x_iinc (i := 4) (q := 4) (v := nI (j + 1)) (L' := [(4, .int (nI (j + 1))), (3, .int (nI (cn (fun o => tH S o && isAh S o i) j + 0))), (0, .ref a), (1, .int p), (2, .int (nI i))]) dX2_ranked_66 rfl (nI_1 _) (by decide) rfl ?_
          refine x_goto (tgt := 28) dX2_ranked_69 (by decide) ?_
          refine x_locs (L' := [(0, .ref a), (1, .int p), (2, .int (nI i)), (3, .int (nI (cn (fun o => tH S o && isAh S o i) j + 0))), (4, .int (nI (j + 1)))]) [2, 3, 4, 1, 0] rfl ?_
          have := ih (j + 1) (by omega)
          rw [cn_f (f := (fun o => tH S o && isAh S o i)) hf] at this
          exact this
        · have hf : (fun o => tH S o && isAh S o i) j = true := by show (tH S j && isAh S j i) = true; rw [bI_1 c1, bI_1 c2]; rfl
          refine x_iconst (v := nI 1) dX2_ranked_59 (by decide) ?_
          refine x_goto (tgt := 64) dX2_ranked_60 (by decide) ?_
          refine x_iadd dX2_ranked_64 ?_
          refine x_top (x' := nI (cn (fun o => tH S o && isAh S o i) j + 1)) (nI_add _ _) ?_
          refine x_istore_n (i := 3) (L' := [(3, .int (nI (cn (fun o => tH S o && isAh S o i) j + 1))), (0, .ref a), (1, .int p), (2, .int (nI i)), (4, .int (nI j))]) dX2_ranked_65 rfl (by decide) rfl ?_
          refine x_iinc (i := 4) (q := 4) (v := nI (j + 1)) (L' := [(4, .int (nI (j + 1))), (3, .int (nI (cn (fun o => tH S o && isAh S o i) j + 1))), (0, .ref a), (1, .int p), (2, .int (nI i))]) dX2_ranked_66 rfl (nI_1 _) (by decide) rfl ?_
          refine x_goto (tgt := 28) dX2_ranked_69 (by decide) ?_
          refine x_locs (L' := [(0, .ref a), (1, .int p), (2, .int (nI i)), (3, .int (nI (cn (fun o => tH S o && isAh S o i) j + 1))), (4, .int (nI (j + 1)))]) [2, 3, 4, 1, 0] rfl ?_
          have := ih (j + 1) (by omega)
          rw [cn_t (f := (fun o => tH S o && isAh S o i)) hf] at this
          exact this
  suffices loop : ∀ (d i : Nat), i + d = nC S → qRanked S p = pickF (tH S) (fun k => cn (fun o => tH S o && isAh S o k) (nC S)) p d i → X l yX2_ranked cX2_ranked 5 (some FieldType.int) [] G (yroom 3 0 0) (yEnd G (yroom 3 0 0) (PS σ (qRanked S p))) 2 [(0, .ref a), (1, .int p), (2, .int (nI i))] [] σ 0 0 from loop (nC S) 0 (Nat.zero_add _) rfl
  intro d
  induction d with
  | zero =>
    intro i hi hco
    have hi8 : i = nC S := by omega
    subst hi8
    refine x_iload_n dX2_ranked_2 2 rfl rfl ?_
    refine x_aload_n dX2_ranked_3 0 rfl rfl ?_
    refine x_get dX2_ranked_4 vC_2 in_X2 hM.1 0 (by decide) q1876 rfl ?_
    refine x_iconst (v := nI 0) dX2_ranked_7 (by decide) ?_
    refine x_iald (N := 429) (j := 0) (v := nI (nC S)) dX2_ranked_8 (hM.2.1 0 rfl) (rfl) (by decide) (by decide) (hG.c) ?_
    refine x_icmp_ge (tgt := 85) dX2_ranked_9 (by decide) (fun _ => ?_) (fun h_ => absurd ((nI_leI (by omega) (by omega)).mpr (Nat.le_refl _)) h_)
    refine x_bipush (v := (-11)) dX2_ranked_85 (by decide) ?_
    exact x_iret dX2_ranked_87 rfl (pS' (by rw [hco]; rfl))
  | succ d ih =>
    intro i hi hco
    refine x_iload_n dX2_ranked_2 2 rfl rfl ?_
    refine x_aload_n dX2_ranked_3 0 rfl rfl ?_
    refine x_get dX2_ranked_4 vC_2 in_X2 hM.1 0 (by decide) q1876 rfl ?_
    refine x_iconst (v := nI 0) dX2_ranked_7 (by decide) ?_
    refine x_iald (N := 429) (j := 0) (v := nI (nC S)) dX2_ranked_8 (hM.2.1 0 rfl) (rfl) (by decide) (by decide) (hG.c) ?_
    refine x_icmp_ge (tgt := 85) dX2_ranked_9 (by decide) (fun h_ => absurd h_ (fun h => absurd (nLe (by omega) (by omega) h) (by omega))) (fun _ => ?_)
    refine x_aload_n dX2_ranked_12 0 rfl rfl ?_
    refine x_iload_n dX2_ranked_13 2 rfl rfl ?_
    refine x_callV dX2_ranked_14 (con_X2_isMaid hM hG hI (v := nI i)) (lw_V q1959 q1961 qs43 q101 q1962) (np := 1) (by decide +kernel) rfl (rcv_of vC_2 hM.1) ⟨Nat.le_of_ble_eq_true rfl, Nat.le_of_ble_eq_true rfl⟩ (Nat.le_of_ble_eq_true rfl) rfl (by decide) (by decide) (rS ?_) nI'
    refine x_top (x' := bI (tH S i)) (by rw [isT_nI hC (by omega)]) ?_
    refine x_if_ne (tgt := 23) dX2_ranked_17 (by decide) (fun c1 => ?_) (fun c1 => ?_)
    · have hf := bI_1 c1
      refine x_iconst (v := nI 0) dX2_ranked_23 (by decide) ?_
      refine x_istore_n (i := 3) (L' := [(3, .int (nI 0)), (0, .ref a), (1, .int p), (2, .int (nI i))]) dX2_ranked_24 rfl (by decide) rfl ?_
      refine x_iconst (v := nI 0) dX2_ranked_25 (by decide) ?_
      refine x_istore (i := 4) (L' := [(4, .int (nI 0)), (3, .int (nI 0)), (0, .ref a), (1, .int p), (2, .int (nI i))]) dX2_ranked_26 (by decide) rfl ?_
      refine x_locs (L' := [(0, .ref a), (1, .int p), (2, .int (nI i)), (3, .int (nI 0)), (4, .int (nI 0))]) [2, 3, 4, 1, 0] rfl ?_
      refine inner i (by omega) ?_ (nC S) 0 (Nat.zero_add _)
      refine x_iload_n dX2_ranked_72 3 rfl rfl ?_
      refine x_iload_n dX2_ranked_73 1 rfl rfl ?_
      refine x_icmp_ne (tgt := 79) dX2_ranked_74 (by decide) (fun c2 => ?_) (fun c2 => ?_)
      · refine x_iinc (i := 2) (q := 2) (v := nI (i + 1)) (L' := [(2, .int (nI (i + 1))), (0, .ref a), (1, .int p), (3, .int (nI (cn (fun o => tH S o && isAh S o i) (nC S)))), (4, .int (nI (nC S)))]) dX2_ranked_79 rfl (nI_1 _) (by decide) rfl ?_
        refine x_goto (tgt := 2) dX2_ranked_82 (by decide) ?_
        refine x_locs (L' := [(0, .ref a), (1, .int p), (2, .int (nI (i + 1)))]) [1, 2, 0] rfl ?_
        exact ih (i + 1) (by omega) (hco.trans (pickF_n (g := (fun k => cn (fun o => tH S o && isAh S o k) (nC S))) (Or.inr c2)))
      · refine x_iload_n dX2_ranked_77 2 rfl rfl ?_
        exact x_iret dX2_ranked_78 rfl (pS' (by rw [hco, pickF_y (g := (fun k => cn (fun o => tH S o && isAh S o k) (nC S))) hf c2]))
    · have hf := bI_0 c1
      refine x_goto (tgt := 79) dX2_ranked_20 (by decide) ?_
      refine x_iinc (i := 2) (q := 2) (v := nI (i + 1)) (L' := [(2, .int (nI (i + 1))), (0, .ref a), (1, .int p)]) dX2_ranked_79 rfl (nI_1 _) (by decide) rfl ?_
      refine x_goto (tgt := 2) dX2_ranked_82 (by decide) ?_
      refine x_locs (L' := [(0, .ref a), (1, .int p), (2, .int (nI (i + 1)))]) [1, 2, 0] rfl ?_
      exact ih (i + 1) (by omega) (hco.trans (pickF_n (g := (fun k => cn (fun o => tH S o && isAh S o k) (nC S))) (Or.inl hf)))
set_option maxHeartbeats 4000000 in
set_option maxRecDepth 100000 in
theorem con_X2_waitedFor {l : Launch} {G : YG} {σ : AH} {a : Nat} {ad : Nat → Nat} {M : MS} {S : AS} {v : Int32} (hM : MAt σ a ad M) (hG : GR (M.1 0) S) (hI : IV S) : Con l yX2_waitedFor cX2_waitedFor 4 (some FieldType.int) G 3 0 0 [.ref a, .int v] σ (PS σ (qWaited S v)) := by
  refine con_of (by decide) (Nat.le_of_ble_eq_true rfl) ?_
  refine x_locs (L' := [(0, .ref a), (1, .int v)]) [0, 1] rfl ?_
  refine x_aload_n dX2_waitedFor_0 0 rfl rfl ?_
  refine x_iload_n dX2_waitedFor_1 1 rfl rfl ?_
  refine x_callV dX2_waitedFor_2 (con_X2_isMaid hM hG hI (v := v)) (lw_V q1959 q1961 qs43 q101 q1962) (np := 1) (by decide +kernel) rfl (rcv_of vC_2 hM.1) ⟨Nat.le_of_ble_eq_true rfl, Nat.le_of_ble_eq_true rfl⟩ (Nat.le_of_ble_eq_true rfl) rfl (by decide) (by decide) (rS ?_) nI'
  refine x_if_ne (tgt := 11) dX2_waitedFor_5 (by decide) (fun c1 => ?_) (fun c1 => ?_)
  · have c1 := bI_1 c1
    obtain ⟨m, hm, rfl, hvn, htm⟩ := isT_of hI.c c1
    have hm24 : m < 24 := by have := hI.c; omega
    have hC := hI.c
    have hco : qWaited S (nI m) = encB (fun o => decide (o < nC S) && rB S o m) := by unfold qWaited; rw [c1]; show encB (fun o => _ && rB S o (iN (nI m))) = _; rw [show iN (nI m) = m from hvn]
    rw [hco]
    refine x_iconst (v := nI 0) dX2_waitedFor_11 (by decide) ?_
    refine x_istore_n (i := 2) (L' := [(2, .int (nI 0)), (0, .ref a), (1, .int (nI m))]) dX2_waitedFor_12 rfl (by decide) rfl ?_
    refine x_iconst (v := nI 0) dX2_waitedFor_13 (by decide) ?_
    refine x_istore_n (i := 3) (L' := [(3, .int (nI 0)), (2, .int (nI 0)), (0, .ref a), (1, .int (nI m))]) dX2_waitedFor_14 rfl (by decide) rfl ?_
    refine x_locs (L' := [(0, .ref a), (1, .int (nI m)), (2, .int (nI 0)), (3, .int (nI 0))]) [2, 3, 1, 0] rfl ?_
    suffices loop : ∀ (d i : Nat) (z : Int32), i + d = nC S → BS z (fun o => decide (o < i) && rB S o m) → X l yX2_waitedFor cX2_waitedFor 4 (some FieldType.int) [] G (yroom 3 0 0) (yEnd G (yroom 3 0 0) (PS σ (encB (fun o => decide (o < nC S) && rB S o m)))) 15 [(0, .ref a), (1, .int (nI m)), (2, .int z), (3, .int (nI i))] [] σ 0 0 from loop (nC S) 0 _ (Nat.zero_add _) (BS.zero.to (fun i _ => by simp))
    intro d
    induction d with
    | zero =>
      intro i z hi hz
      have hi8 : i = nC S := by omega
      subst hi8
      refine x_iload_n dX2_waitedFor_15 3 rfl rfl ?_
      refine x_aload_n dX2_waitedFor_16 0 rfl rfl ?_
      refine x_get dX2_waitedFor_17 vC_2 in_X2 hM.1 0 (by decide) q1876 rfl ?_
      refine x_iconst (v := nI 0) dX2_waitedFor_20 (by decide) ?_
      refine x_iald (N := 429) (j := 0) (v := nI (nC S)) dX2_waitedFor_21 (hM.2.1 0 rfl) (rfl) (by decide) (by decide) (hG.c) ?_
      refine x_icmp_ge (tgt := 45) dX2_waitedFor_22 (by decide) (fun _ => ?_) (fun h_ => absurd ((nI_leI (by omega) (by omega)).mpr (Nat.le_refl _)) h_)
      refine x_iload_n dX2_waitedFor_45 2 rfl rfl ?_
      exact x_iret dX2_waitedFor_46 rfl (pS' hz.enc)
    | succ d ih =>
      intro i z hi hz
      refine x_iload_n dX2_waitedFor_15 3 rfl rfl ?_
      refine x_aload_n dX2_waitedFor_16 0 rfl rfl ?_
      refine x_get dX2_waitedFor_17 vC_2 in_X2 hM.1 0 (by decide) q1876 rfl ?_
      refine x_iconst (v := nI 0) dX2_waitedFor_20 (by decide) ?_
      refine x_iald (N := 429) (j := 0) (v := nI (nC S)) dX2_waitedFor_21 (hM.2.1 0 rfl) (rfl) (by decide) (by decide) (hG.c) ?_
      refine x_icmp_ge (tgt := 45) dX2_waitedFor_22 (by decide) (fun h_ => absurd h_ (fun h => absurd (nLe (by omega) (by omega) h) (by omega))) (fun _ => ?_)
      refine x_iload_n dX2_waitedFor_25 2 rfl rfl ?_
      refine x_aload_n dX2_waitedFor_26 0 rfl rfl ?_
      refine x_iload_n dX2_waitedFor_27 3 rfl rfl ?_
      refine x_callV dX2_waitedFor_28 (con_X2_reaches hM hG hI (m := i) (by omega)) (lw_V q2025 q2027 qs58 q101 q2028) (np := 1) (by decide +kernel) rfl (rcv_of vC_2 hM.1) ⟨Nat.le_of_ble_eq_true rfl, Nat.le_of_ble_eq_true rfl⟩ (Nat.le_of_ble_eq_true rfl) rfl (by decide) (by decide) (rR fun x hx => ?_) nI'
      refine x_iload_n dX2_waitedFor_31 1 rfl rfl ?_
      refine x_ishr dX2_waitedFor_32 ?_
      refine x_iconst (v := nI 1) dX2_waitedFor_33 (by decide) ?_
      refine x_iand dX2_waitedFor_34 ?_
      refine x_top (x' := bI (rB S i m)) (hx.bit hm24) ?_
      refine x_iload_n dX2_waitedFor_35 3 rfl rfl ?_
      refine x_ishl dX2_waitedFor_36 ?_
      refine x_ior dX2_waitedFor_37 ?_
      refine x_istore_n (i := 2) (L' := [(2, .int (z ||| ((bI (rB S i m)) <<< ((nI i) &&& 31)))), (0, .ref a), (1, .int (nI m)), (3, .int (nI i))]) dX2_waitedFor_38 rfl (by decide) rfl ?_
      refine x_iinc (i := 3) (q := 3) (v := nI (i + 1)) (L' := [(3, .int (nI (i + 1))), (2, .int (z ||| ((bI (rB S i m)) <<< ((nI i) &&& 31)))), (0, .ref a), (1, .int (nI m))]) dX2_waitedFor_39 rfl (nI_1 _) (by decide) rfl ?_
      refine x_goto (tgt := 15) dX2_waitedFor_42 (by decide) ?_
      refine x_locs (L' := [(0, .ref a), (1, .int (nI m)), (2, .int (z ||| ((bI (rB S i m)) <<< ((nI i) &&& 31)))), (3, .int (nI (i + 1)))]) [2, 3, 1, 0] rfl ?_
      refine ih (i + 1) _ (by omega) ((hz.or (BS.bone (rB S i m) (show i < 24 by omega))).to (fun j _ => ?_))
      by_cases e : j = i
      · subst e; simp
      · have : (decide (j < i + 1)) = decide (j < i) := by
          by_cases q : j < i
          · simp [q]; omega
          · simp [q]; omega
        simp [e, this]
  · have c1 := bI_0 c1
    have hco : qWaited S v = (-11) := by unfold qWaited; rw [c1]; rfl
    refine x_bipush (v := (-11)) dX2_waitedFor_8 (by decide) ?_
    exact x_iret dX2_waitedFor_10 rfl (pS' (by rw [hco]))
set_option maxHeartbeats 4000000 in
set_option maxRecDepth 100000 in
theorem con_X2_isBalanced {l : Launch} {G : YG} {σ : AH} {a : Nat} {ad : Nat → Nat} {M : MS} {S : AS} (hM : MAt σ a ad M) (hG : GR (M.1 0) S) (hI : IV S) : Con l yX2_isBalanced cX2_isBalanced 2 (some FieldType.int) G 5 0 0 [.ref a] σ (PS σ (qBal S)) := by
  refine con_of (by decide) (Nat.le_of_ble_eq_true rfl) ?_
  refine x_locs (L' := [(0, .ref a)]) [0] rfl ?_
  have hC := hI.c
  have hmx : ∀ s n, mx (fun o => hw S o s) n ≤ 2 := fun s n => mx_le.mpr (fun o _ => hI.2.2.1 o s)
  refine x_iconst (v := nI 0) dX2_isBalanced_0 (by decide) ?_
  refine x_istore_n (i := 1) (L' := [(1, .int (nI 0)), (0, .ref a)]) dX2_isBalanced_1 rfl (by decide) rfl ?_
  refine x_locs (L' := [(0, .ref a), (1, .int (nI 0))]) [1, 0] rfl ?_
  suffices loop : ∀ (d i : Nat), i + d = 8 → cn (badS S) i = 0 → X l yX2_isBalanced cX2_isBalanced 2 (some FieldType.int) [] G (yroom 5 0 0) (yEnd G (yroom 5 0 0) (PS σ (qBal S))) 2 [(0, .ref a), (1, .int (nI i))] [] σ 0 0 from loop 8 0 rfl rfl
  intro d
  induction d with
  | zero =>
    intro i hi hz
    have hi8 : i = 8 := by omega
    subst hi8
    refine x_iload_n dX2_isBalanced_2 1 rfl rfl ?_
    refine x_bipush (v := nI 8) dX2_isBalanced_3 (by decide) ?_
    refine x_icmp_ge (tgt := 68) dX2_isBalanced_5 (by decide) (fun _ => ?_) (fun h_ => absurd (by decide) h_)
    refine x_aload_n dX2_isBalanced_68 0 rfl rfl ?_
    refine x_callV dX2_isBalanced_69 (con_X2_youngestInRing hM hG hI) (lw_V q2017 q2019 qs56 q101 q2020) (np := 0) (by decide +kernel) rfl (rcv_of vC_2 hM.1) ⟨Nat.le_of_ble_eq_true rfl, Nat.le_of_ble_eq_true rfl⟩ (Nat.le_of_ble_eq_true rfl) rfl (by decide) (by decide) (rS ?_) nI'
    cases hy : young S with
    | none =>
      refine x_if_ge (tgt := 79) dX2_isBalanced_72 (by decide) (fun h_ => absurd h_ (by rw [yI_none hy]; decide)) (fun _ => ?_)
      refine x_iconst (v := nI 1) dX2_isBalanced_75 (by decide) ?_
      refine x_goto (tgt := 80) dX2_isBalanced_76 (by decide) ?_
      exact x_iret dX2_isBalanced_80 rfl (pS' (by unfold qBal; rw [hz, hy]; rfl))
    | some s =>
      have hys := (young_some hy).1
      refine x_if_ge (tgt := 79) dX2_isBalanced_72 (by decide) (fun _ => ?_) (fun h_ => absurd (by rw [yI_some hy]; exact nI_pos' (by omega)) h_)
      refine x_iconst (v := nI 0) dX2_isBalanced_79 (by decide) ?_
      exact x_iret dX2_isBalanced_80 rfl (pS' (by unfold qBal; rw [hz, hy]; rfl))
  | succ d ih =>
    intro i hi hz
    have hs : i < 8 := by omega
    have hl8 := hI.len hs
    have hcn := cn_le (f := heldF S i) (n := nC S)
    have hx2 := hmx i (nC S)
    have bad : badS S i = true → qBal S = 0 := fun h => by
      unfold qBal
      rw [show (cn (badS S) 8 == 0) = false by have := cn_zero_of 8 hs h; simp [this]]
      rfl
    have good : badS S i = false → X l yX2_isBalanced cX2_isBalanced 2 (some FieldType.int) [] G (yroom 5 0 0) (yEnd G (yroom 5 0 0) (PS σ (qBal S))) 62 [(0, .ref a), (1, .int (nI i))] [] σ 0 0 := fun h => by
      refine x_iinc (i := 1) (q := 1) (v := nI (i + 1)) (L' := [(1, .int (nI (i + 1))), (0, .ref a)]) dX2_isBalanced_62 rfl (nI_1 _) (by decide) rfl ?_
      refine x_goto (tgt := 2) dX2_isBalanced_65 (by decide) ?_
      refine x_locs (L' := [(0, .ref a), (1, .int (nI (i + 1)))]) [1, 0] rfl ?_
      exact ih (i + 1) (by omega) ((cn_f h).trans hz)
    have tail : ¬ (mx (fun o => hw S o i) (nC S) = 2 ∧ 1 < cn (heldF S i) (nC S)) → X l yX2_isBalanced cX2_isBalanced 2 (some FieldType.int) [] G (yroom 5 0 0) (yEnd G (yroom 5 0 0) (PS σ (qBal S))) 26 [(0, .ref a), (1, .int (nI i))] [] σ 0 0 := by
      intro hn
      have hn1 : (mx (fun o => hw S o i) (nC S) == 2 && decide (1 < cn (heldF S i) (nC S))) = false := by
        rcases Nat.lt_or_ge 1 (cn (heldF S i) (nC S)) with q | q
        · have : mx (fun o => hw S o i) (nC S) ≠ 2 := fun z => hn ⟨z, q⟩
          simp [this]
        · rw [decide_eq_false (show ¬ 1 < cn (heldF S i) (nC S) by omega)]; simp
      refine x_aload_n dX2_isBalanced_26 0 rfl rfl ?_
      refine x_iload_n dX2_isBalanced_27 1 rfl rfl ?_
      refine x_iconst (v := nI 2) dX2_isBalanced_28 (by decide) ?_
      refine x_callV dX2_isBalanced_29 (con_X2_shelf hM (s := i) (w := 2) hs (by decide)) (lw_V q1989 q1991 qs49 q101 q1992) (np := 2) (by decide +kernel) rfl (rcv_of vC_2 hM.1) ⟨Nat.le_of_ble_eq_true rfl, Nat.le_of_ble_eq_true rfl⟩ (Nat.le_of_ble_eq_true rfl) rfl (by decide) (by decide) (rS ?_) nI'
      refine x_top (x' := nI (qu S i).length) ((hG.2.2.2.2.1 i hs).2.2) ?_
      refine x_if_le (tgt := 62) dX2_isBalanced_32 (by decide) (fun c1 => ?_) (fun c1 => ?_)
      · have c1 := List.eq_nil_of_length_eq_zero (le0 (by omega) c1)
        have hb : badS S i = false := by unfold badS; rw [hn1, c1]; rfl
        refine x_locs (L' := [(0, .ref a), (1, .int (nI i))]) [0, 1] rfl ?_
        exact good hb
      · have c1 := nle0 (by omega) c1
        obtain ⟨x, xs, hq⟩ : ∃ x xs, qu S i = x :: xs := by
          cases hq : qu S i with
          | nil => rw [hq] at c1; exact absurd rfl c1
          | cons x xs => exact ⟨x, xs, rfl⟩
        have hx : (qu S i)[0]? = some x := by rw [hq]; rfl
        have hxr := hI.w hs (List.mem_of_getElem? hx)
        have hxC := hI.th hxr.1
        have hx24 : x.1 < 24 := by omega
        have hxk : kindOf S x.1 = x.2.1 := by
          have h1 := aAt_row hI.uq hs (List.mem_of_getElem? hx)
          unfold kindOf aWish
          rw [h1]
          simp only
          rw [wish_row (hI.nd hs) (List.mem_of_getElem? hx)]
        have hb : badS S i = canB S i x.1 x.2.1 := by unfold badS; rw [hn1, hq]; rfl
        refine x_aload_n dX2_isBalanced_35 0 rfl rfl ?_
        refine x_aload_n dX2_isBalanced_36 0 rfl rfl ?_
        refine x_iload_n dX2_isBalanced_37 1 rfl rfl ?_
        refine x_iconst (v := nI 3) dX2_isBalanced_38 (by decide) ?_
        refine x_callV dX2_isBalanced_39 (con_X2_shelf hM (s := i) (w := 3) hs (by decide)) (lw_V q1989 q1991 qs49 q101 q1992) (np := 2) (by decide +kernel) rfl (rcv_of vC_2 hM.1) ⟨Nat.le_of_ble_eq_true rfl, Nat.le_of_ble_eq_true rfl⟩ (Nat.le_of_ble_eq_true rfl) rfl (by decide) (by decide) (rS ?_) nI'
        refine x_top (x' := nI x.1) (hG.2.2.2.2.2 i 0 x hs hx) ?_
        refine x_iload_n dX2_isBalanced_42 1 rfl rfl ?_
        refine x_aload_n dX2_isBalanced_43 0 rfl rfl ?_
        refine x_aload_n dX2_isBalanced_44 0 rfl rfl ?_
        refine x_iload_n dX2_isBalanced_45 1 rfl rfl ?_
        refine x_iconst (v := nI 3) dX2_isBalanced_46 (by decide) ?_
        refine x_callV dX2_isBalanced_47 (con_X2_shelf hM (s := i) (w := 3) hs (by decide)) (lw_V q1989 q1991 qs49 q101 q1992) (np := 2) (by decide +kernel) rfl (rcv_of vC_2 hM.1) ⟨Nat.le_of_ble_eq_true rfl, Nat.le_of_ble_eq_true rfl⟩ (Nat.le_of_ble_eq_true rfl) rfl (by decide) (by decide) (rS ?_) nI'
        refine x_top (x' := nI x.1) (hG.2.2.2.2.2 i 0 x hs hx) ?_
        refine x_iconst (v := nI 2) dX2_isBalanced_50 (by decide) ?_
        refine x_callV dX2_isBalanced_51 (con_X2_of hM (m := x.1) (w := 2) hx24 (by decide)) (lw_V q1966 q1968 qs44 q101 q1969) (np := 2) (by decide +kernel) rfl (rcv_of vC_2 hM.1) ⟨Nat.le_of_ble_eq_true rfl, Nat.le_of_ble_eq_true rfl⟩ (Nat.le_of_ble_eq_true rfl) rfl (by decide) (by decide) (rS ?_) nI'
        refine x_top (x' := nI x.2.1) ((hG.2.2.1 x.1 hxC).2.trans (by rw [hxk])) ?_
        refine x_callV dX2_isBalanced_54 (con_X2_can hM hG hC hx24 hs hxr.2.1 (fun e => by have := hxr.2.2.1; omega) (fun o => hI.2.2.1 o i)) (lw_V q1993 q1995 qs50 q101 q1996) (np := 3) (by decide +kernel) rfl (rcv_of vC_2 hM.1) ⟨Nat.le_of_ble_eq_true rfl, Nat.le_of_ble_eq_true rfl⟩ (Nat.le_of_ble_eq_true rfl) rfl (by decide) (by decide) (rS ?_) nI'
        refine x_if_eq (tgt := 62) dX2_isBalanced_57 (by decide) (fun c2 => ?_) (fun c2 => ?_)
        · have c2 := bI_0 c2
          refine x_locs (L' := [(0, .ref a), (1, .int (nI i))]) [0, 1] rfl ?_
          exact good (hb.trans c2)
        · have c2 := bI_1 c2
          refine x_iconst (v := nI 0) dX2_isBalanced_60 (by decide) ?_
          exact x_iret dX2_isBalanced_61 rfl (pS' (by rw [bad (hb.trans c2)]; rfl))
    refine x_iload_n dX2_isBalanced_2 1 rfl rfl ?_
    refine x_bipush (v := nI 8) dX2_isBalanced_3 (by decide) ?_
    refine x_icmp_ge (tgt := 68) dX2_isBalanced_5 (by decide) (fun h_ => absurd h_ (fun h => absurd (nLe (by omega) (by omega) h) (by omega))) (fun _ => ?_)
    refine x_aload_n dX2_isBalanced_8 0 rfl rfl ?_
    refine x_iload_n dX2_isBalanced_9 1 rfl rfl ?_
    refine x_callV dX2_isBalanced_10 (con_X2_howHeld hM hG hI hs) (lw_V q2085 q2087 qs67 q101 q2088) (np := 1) (by decide +kernel) rfl (rcv_of vC_2 hM.1) ⟨Nat.le_of_ble_eq_true rfl, Nat.le_of_ble_eq_true rfl⟩ (Nat.le_of_ble_eq_true rfl) rfl (by decide) (by decide) (rS ?_) nI'
    refine x_iconst (v := nI 2) dX2_isBalanced_13 (by decide) ?_
    refine x_icmp_ne (tgt := 26) dX2_isBalanced_14 (by decide) (fun c1 => ?_) (fun c1 => ?_)
    · have c1 := nNe (by omega) (by omega) c1
      refine x_locs (L' := [(0, .ref a), (1, .int (nI i))]) [0, 1] rfl ?_
      exact tail (fun z => c1 z.1)
    · have c1 := nEq (by omega) (by omega) c1
      refine x_aload_n dX2_isBalanced_17 0 rfl rfl ?_
      refine x_iload_n dX2_isBalanced_18 1 rfl rfl ?_
      refine x_callV dX2_isBalanced_19 (con_X2_holders hM hG hI hs) (lw_V q2081 q2083 qs66 q101 q2084) (np := 1) (by decide +kernel) rfl (rcv_of vC_2 hM.1) ⟨Nat.le_of_ble_eq_true rfl, Nat.le_of_ble_eq_true rfl⟩ (Nat.le_of_ble_eq_true rfl) rfl (by decide) (by decide) (rS ?_) nI'
      refine x_iconst (v := nI 1) dX2_isBalanced_22 (by decide) ?_
      refine x_icmp_gt (tgt := 60) dX2_isBalanced_23 (by decide) (fun c2 => ?_) (fun c2 => ?_)
      · have c2 := nLt (by omega) (by omega) c2
        have hb : badS S i = true := by unfold badS; rw [c1, decide_eq_true c2]; rfl
        refine x_iconst (v := nI 0) dX2_isBalanced_60 (by decide) ?_
        exact x_iret dX2_isBalanced_61 rfl (pS' (by rw [bad hb]; rfl))
      · have c2 := nNlt (by omega) (by omega) c2
        refine x_locs (L' := [(0, .ref a), (1, .int (nI i))]) [0, 1] rfl ?_
        exact tail (fun z => by omega)
set_option maxHeartbeats 4000000 in
set_option maxRecDepth 100000 in
theorem con_X2_meanHeld {l : Launch} {G : YG} {σ : AH} {a : Nat} {ad : Nat → Nat} {M : MS} {S : AS} (hM : MAt σ a ad M) (hG : GR (M.1 0) S) (hI : IV S) : Con l yX2_meanHeld cX2_meanHeld 1 (some FieldType.double) G 2 0 0 [.ref a] σ (PD fun z τ => τ = σ ∧ z = qMean S) := by
  refine con_of (by decide) (Nat.le_of_ble_eq_true rfl) ?_
  refine x_locs (L' := [(0, .ref a)]) [0] rfl ?_
  have hE : nE S ≤ nC S := by have := hI.2.2.2.2.2.2.2.2.1; omega
  have hC := hI.c
  have h8 : nC S - nE S ≤ 8 := by have h1 := hI.2.2.2.2.2.2.2.2.1; have h2 := hI.2.2.2.2.2.2.2.2.2; omega
  refine x_aload_n dX2_meanHeld_0 0 rfl rfl ?_
  refine x_callV dX2_meanHeld_1 (con_X2_there hM hG hE) (lw_V q1940 q1942 qs40 q101 q1943) (np := 0) (by decide +kernel) rfl (rcv_of vC_2 hM.1) ⟨Nat.le_of_ble_eq_true rfl, Nat.le_of_ble_eq_true rfl⟩ (Nat.le_of_ble_eq_true rfl) rfl (by decide) (by decide) (rS ?_) nI'
  refine x_if_ne (tgt := 11) dX2_meanHeld_4 (by decide) (fun c1 => ?_) (fun c1 => ?_)
  · have c1 := nN0 c1
    refine x_aload_n dX2_meanHeld_11 0 rfl rfl ?_
    refine x_iconst (v := nI 1) dX2_meanHeld_12 (by decide) ?_
    refine x_callV dX2_meanHeld_13 (con_X2_locksThat hM hG hI (t := 1) (by decide)) (lw_V q2217 q2219 qs82 q101 q2220) (np := 1) (by decide +kernel) rfl (rcv_of vC_2 hM.1) ⟨Nat.le_of_ble_eq_true rfl, Nat.le_of_ble_eq_true rfl⟩ (Nat.le_of_ble_eq_true rfl) rfl (by decide) (by decide) (rS ?_) nI'
    refine x_i2d dX2_meanHeld_16 ?_
    refine x_aload_n dX2_meanHeld_17 0 rfl rfl ?_
    refine x_callV dX2_meanHeld_18 (con_X2_there hM hG hE) (lw_V q1940 q1942 qs40 q101 q1943) (np := 0) (by decide +kernel) rfl (rcv_of vC_2 hM.1) ⟨Nat.le_of_ble_eq_true rfl, Nat.le_of_ble_eq_true rfl⟩ (Nat.le_of_ble_eq_true rfl) rfl (by decide) (by decide) (rS ?_) nI'
    refine x_i2d dX2_meanHeld_21 ?_
    refine x_ddiv dX2_meanHeld_22 (ddiv_ok lkN_le h8 c1) ?_
    exact x_dret dX2_meanHeld_23 rfl ⟨_, rfl, rfl, by unfold qMean; rw [if_neg c1]⟩
  · have c1 := n0 (by omega) c1
    refine x_dconst0 dX2_meanHeld_7 ?_
    refine x_goto (tgt := 23) dX2_meanHeld_8 (by decide) ?_
    exact x_dret dX2_meanHeld_23 rfl ⟨_, rfl, rfl, by unfold qMean; rw [if_pos c1]⟩
set_option maxHeartbeats 4000000 in
set_option maxRecDepth 100000 in
theorem con_X2_waitingShare {l : Launch} {G : YG} {σ : AH} {a : Nat} {ad : Nat → Nat} {M : MS} {S : AS} (hM : MAt σ a ad M) (hG : GR (M.1 0) S) (hI : IV S) : Con l yX2_waitingShare cX2_waitingShare 1 (some FieldType.float) G 2 0 0 [.ref a] σ (PF fun z τ => τ = σ ∧ z = qShare S) := by
  refine con_of (by decide) (Nat.le_of_ble_eq_true rfl) ?_
  refine x_locs (L' := [(0, .ref a)]) [0] rfl ?_
  have hE : nE S ≤ nC S := by have := hI.2.2.2.2.2.2.2.2.1; omega
  have hC := hI.c
  have h8 : nC S - nE S ≤ 8 := by have h1 := hI.2.2.2.2.2.2.2.2.1; have h2 := hI.2.2.2.2.2.2.2.2.2; omega
  refine x_aload_n dX2_waitingShare_0 0 rfl rfl ?_
  refine x_callV dX2_waitingShare_1 (con_X2_there hM hG hE) (lw_V q1940 q1942 qs40 q101 q1943) (np := 0) (by decide +kernel) rfl (rcv_of vC_2 hM.1) ⟨Nat.le_of_ble_eq_true rfl, Nat.le_of_ble_eq_true rfl⟩ (Nat.le_of_ble_eq_true rfl) rfl (by decide) (by decide) (rS ?_) nI'
  refine x_if_ne (tgt := 11) dX2_waitingShare_4 (by decide) (fun c1 => ?_) (fun c1 => ?_)
  · have c1 := nN0 c1
    refine x_aload_n dX2_waitingShare_11 0 rfl rfl ?_
    refine x_callV dX2_waitingShare_12 (con_X2_waiting hM hG hI) (lw_V q2213 q2215 qs81 q101 q2216) (np := 0) (by decide +kernel) rfl (rcv_of vC_2 hM.1) ⟨Nat.le_of_ble_eq_true rfl, Nat.le_of_ble_eq_true rfl⟩ (Nat.le_of_ble_eq_true rfl) rfl (by decide) (by decide) (rS ?_) nI'
    refine x_i2f dX2_waitingShare_15 ?_
    refine x_aload_n dX2_waitingShare_16 0 rfl rfl ?_
    refine x_callV dX2_waitingShare_17 (con_X2_there hM hG hE) (lw_V q1940 q1942 qs40 q101 q1943) (np := 0) (by decide +kernel) rfl (rcv_of vC_2 hM.1) ⟨Nat.le_of_ble_eq_true rfl, Nat.le_of_ble_eq_true rfl⟩ (Nat.le_of_ble_eq_true rfl) rfl (by decide) (by decide) (rS ?_) nI'
    refine x_i2f dX2_waitingShare_20 ?_
    refine x_fdiv dX2_waitingShare_21 (fdiv_ok (nW_le hI) h8 c1) ?_
    exact x_fret dX2_waitingShare_22 rfl ⟨_, rfl, rfl, by unfold qShare; rw [if_neg c1]⟩
  · have c1 := n0 (by omega) c1
    refine x_fconst0 dX2_waitingShare_7 ?_
    refine x_goto (tgt := 22) dX2_waitingShare_8 (by decide) ?_
    exact x_fret dX2_waitingShare_22 rfl ⟨_, rfl, rfl, by unfold qShare; rw [if_pos c1]⟩
set_option maxHeartbeats 4000000 in
set_option maxRecDepth 100000 in
theorem con_X2_reason {l : Launch} {G : YG} {σ : AH} {a : Nat} {ad : Nat → Nat} {M : MS} {r d : Int32} {b : Bool} (hM : MAt σ a ad M) (h8 : M.2 8 = r) (h9 : M.2 9 = d) : Con l yX2_reason cX2_reason 2 (some FieldType.int) G 0 0 0 [.ref a, .int (bI b)] σ (PS σ (qReason r d b)) := by
  refine con_of (by decide) (Nat.le_of_ble_eq_true rfl) ?_
  refine x_locs (L' := [(0, .ref a), (1, .int (bI b))]) [0, 1] rfl ?_
  refine x_aload_n dX2_reason_0 0 rfl rfl ?_
  refine x_get dX2_reason_1 vC_2 in_X2 hM.1 8 (by decide) q1884 rfl ?_
  refine x_top (x' := r) (h8) ?_
  refine x_if_ne (tgt := 12) dX2_reason_4 (by decide) (fun c1 => ?_) (fun c1 => ?_)
  · refine x_iload_n dX2_reason_12 1 rfl rfl ?_
    refine x_if_eq (tgt := 23) dX2_reason_13 (by decide) (fun c2 => ?_) (fun c2 => ?_)
    · have c2 := bI_0 c2
      refine x_aload_n dX2_reason_23 0 rfl rfl ?_
      refine x_get dX2_reason_24 vC_2 in_X2 hM.1 8 (by decide) q1884 rfl ?_
      refine x_top (x' := r) (h8) ?_
      exact x_iret dX2_reason_27 rfl (pS' (by unfold qReason; rw [if_neg c1, c2]; rfl))
    · have c2 := bI_1 c2
      refine x_aload_n dX2_reason_16 0 rfl rfl ?_
      refine x_get dX2_reason_17 vC_2 in_X2 hM.1 9 (by decide) q1885 rfl ?_
      refine x_top (x' := d) (h9) ?_
      refine x_goto (tgt := 27) dX2_reason_20 (by decide) ?_
      exact x_iret dX2_reason_27 rfl (pS' (by unfold qReason; rw [if_neg c1, c2]; rfl))
  · refine x_bipush (v := (-15)) dX2_reason_7 (by decide) ?_
    refine x_goto (tgt := 27) dX2_reason_9 (by decide) ?_
    exact x_iret dX2_reason_27 rfl (pS' (by unfold qReason; rw [if_pos c1]))
set_option maxHeartbeats 4000000 in
set_option maxRecDepth 100000 in
theorem con_X2_character {l : Launch} {G : YG} {σ : AH} {a : Nat} {ad : Nat → Nat} {M : MS} {t : List Nat} {p : Int32} (hM : MAt σ a ad M) (hL : LN M t) : Con l yX2_character cX2_character 2 (some FieldType.int) G 1 0 0 [.ref a, .int p] σ (PS σ (qChar t p)) := by
  refine con_of (by decide) (Nat.le_of_ble_eq_true rfl) ?_
  refine x_locs (L' := [(0, .ref a), (1, .int p)]) [0, 1] rfl ?_
  have hl := hL.1
  refine x_iload_n dX2_character_0 1 rfl rfl ?_
  refine x_iconst (v := nI 0) dX2_character_1 (by decide) ?_
  refine x_aload_n dX2_character_2 0 rfl rfl ?_
  refine x_get dX2_character_3 vC_2 in_X2 hM.1 13 (by decide) q1889 rfl ?_
  refine x_top (x' := nI t.length) (hL.2.1) ?_
  refine x_iconst (v := nI 1) dX2_character_6 (by decide) ?_
  refine x_isub dX2_character_7 ?_
  refine x_callS dX2_character_8 (con_X2_in (v := p) (lo := nI 0) (hi := nI t.length - nI 1)) (lw_S q1963 q1964 q101 q1965) (np := 3) (by decide +kernel) rfl ⟨Nat.le_of_ble_eq_true rfl, Nat.le_of_ble_eq_true rfl⟩ (Nat.le_of_ble_eq_true rfl) rfl (by decide) (by decide) (rS ?_) nI'
  refine x_top (x' := bI (decide (0 ≤ p) && decide (p < nI t.length))) (by rw [le_pred (by omega)]; rfl) ?_
  refine x_if_eq (tgt := 23) dX2_character_11 (by decide) (fun c2 => ?_) (fun c2 => ?_)
  · have c2 := bI_0 c2
    refine x_bipush (v := (-11)) dX2_character_23 (by decide) ?_
    exact x_iret dX2_character_25 rfl (pS' (by unfold qChar; rw [c2]; rfl))
  · have c2 := bI_1 c2
    have c3 := c2
    simp only [Bool.and_eq_true, decide_eq_true_eq] at c3
    obtain ⟨i, hi, rfl, hpn⟩ := i32_of c3.1 c3.2 (by omega)
    obtain ⟨x, hx⟩ : ∃ x, t[i]? = some x := ⟨_, List.getElem?_eq_getElem hi⟩
    refine x_aload_n dX2_character_14 0 rfl rfl ?_
    refine x_get dX2_character_15 vC_2 in_X2 hM.1 12 (by decide) q1888 rfl ?_
    refine x_iload_n dX2_character_18 1 rfl rfl ?_
    refine x_cald (N := 200) (j := i) (v := nI x) dX2_character_19 (hM.2.1 12 rfl) (rfl) (by omega) (by decide) (hL.2.2 i x hx) ?_
    refine x_goto (tgt := 25) dX2_character_20 (by decide) ?_
    exact x_iret dX2_character_25 rfl (pS' (by unfold qChar; rw [c2, show iN (nI i) = i from hpn, List.getD_eq_getElem?_getD, hx]; rfl))
