set_option maxRecDepth 100000
theorem in_lo {v lo hi : Int32} (h : v < lo) : (nI 0) = bI (decide (lo ≤ v) && decide (v ≤ hi)) := by
  have : ¬ lo ≤ v := Int32.not_le.mpr h
  simp [this, bI]; rfl
theorem in_hi {v lo hi : Int32} (h : hi < v) : (nI 0) = bI (decide (lo ≤ v) && decide (v ≤ hi)) := by
  have : ¬ v ≤ hi := Int32.not_le.mpr h
  simp [this, bI]; rfl
theorem in_ok {v lo hi : Int32} (h1 : ¬ v < lo) (h2 : ¬ hi < v) : (nI 1) = bI (decide (lo ≤ v) && decide (v ≤ hi)) := by
  have h1 : lo ≤ v := Int32.not_lt.mp h1
  have h2 : v ≤ hi := Int32.not_lt.mp h2
  simp [h1, h2, bI]; rfl
set_option maxHeartbeats 4000000 in
set_option maxRecDepth 100000 in
theorem con_X2_in {l : Launch} {G : YG} {σ : AH} {v lo hi : Int32}  : Con l yX2_in cX2_in 3 (some FieldType.boolean) G 0 0 0 [.int v, .int lo, .int hi] σ (PS σ (bI (decide (lo ≤ v) && decide (v ≤ hi)))) := by
  refine con_of (by decide) (Nat.le_of_ble_eq_true rfl) ?_
  refine x_locs (L' := [(0, .int v), (1, .int lo), (2, .int hi)]) [0, 1, 2] rfl ?_
  refine x_iload_n dX2_in_0 0 rfl rfl ?_
  refine x_iload_n dX2_in_1 1 rfl rfl ?_
  refine x_icmp_lt (tgt := 14) dX2_in_2 (by decide) (fun c1 => ?_) (fun c1 => ?_)
  · refine x_iconst (v := nI 0) dX2_in_14 (by decide) ?_
    exact x_zret dX2_in_15 rfl (rfl) (pS' (in_lo c1))
  · refine x_iload_n dX2_in_5 0 rfl rfl ?_
    refine x_iload_n dX2_in_6 2 rfl rfl ?_
    refine x_icmp_gt (tgt := 14) dX2_in_7 (by decide) (fun c2 => ?_) (fun c2 => ?_)
    · skip
      refine x_iconst (v := nI 0) dX2_in_14 (by decide) ?_
      exact x_zret dX2_in_15 rfl (rfl) (pS' (in_hi c2))
    · refine x_iconst (v := nI 1) dX2_in_10 (by decide) ?_
      refine x_goto (tgt := 15) dX2_in_11 (by decide) ?_
      exact x_zret dX2_in_15 rfl (rfl) (pS' (in_ok c1 c2))
set_option maxHeartbeats 4000000 in
set_option maxRecDepth 100000 in
theorem con_X2_isShelf {l : Launch} {G : YG} {σ : AH} {v : Int32}  : Con l yX2_isShelf cX2_isShelf 1 (some FieldType.boolean) G 1 0 0 [.int v] σ (PS σ (bI (decide (0 ≤ v) && decide (v ≤ 7)))) := by
  refine con_of (by decide) (Nat.le_of_ble_eq_true rfl) ?_
  refine x_locs (L' := [(0, .int v)]) [0] rfl ?_
  refine x_iload_n dX2_isShelf_0 0 rfl rfl ?_
  refine x_iconst (v := nI 0) dX2_isShelf_1 (by decide) ?_
  refine x_bipush (v := nI 7) dX2_isShelf_2 (by decide) ?_
  refine x_callS dX2_isShelf_4 (con_X2_in (v := v) (lo := 0) (hi := 7)) (lw_S q1963 q1964 q101 q1965) (np := 3) (by decide +kernel) rfl ⟨Nat.le_of_ble_eq_true rfl, Nat.le_of_ble_eq_true rfl⟩ (Nat.le_of_ble_eq_true rfl) rfl (by decide) (by decide) (rS ?_) nI'
  exact x_zret dX2_isShelf_7 rfl (bI_z _) (pS)
set_option maxHeartbeats 4000000 in
set_option maxRecDepth 100000 in
theorem con_X2_there {l : Launch} {G : YG} {σ : AH} {a : Nat} {ad : Nat → Nat} {M : MS} {S : AS} (hM : MAt σ a ad M) (hG : GR (M.1 0) S) (hE : nE S ≤ nC S) : Con l yX2_there cX2_there 1 (some FieldType.int) G 0 0 0 [.ref a] σ (PS σ (nI (nC S - nE S))) := by
  refine con_of (by decide) (Nat.le_of_ble_eq_true rfl) ?_
  refine x_locs (L' := [(0, .ref a)]) [0] rfl ?_
  refine x_aload_n dX2_there_0 0 rfl rfl ?_
  refine x_get dX2_there_1 vC_2 in_X2 hM.1 0 (by decide) q1876 rfl ?_
  refine x_iconst (v := nI 0) dX2_there_4 (by decide) ?_
  refine x_iald (N := 429) (j := 0) (v := nI (nC S)) dX2_there_5 (hM.2.1 0 rfl) (rfl) (by decide) (by decide) (hG.1.1) ?_
  refine x_aload_n dX2_there_6 0 rfl rfl ?_
  refine x_get dX2_there_7 vC_2 in_X2 hM.1 0 (by decide) q1876 rfl ?_
  refine x_iconst (v := nI 1) dX2_there_10 (by decide) ?_
  refine x_iald (N := 429) (j := 1) (v := nI (nE S)) dX2_there_11 (hM.2.1 0 rfl) (rfl) (by decide) (by decide) (hG.1.2.1) ?_
  refine x_isub dX2_there_12 ?_
  refine x_top (x' := nI (nC S - nE S)) (pk_sub hE) ?_
  exact x_iret dX2_there_13 rfl (pS)
set_option maxHeartbeats 4000000 in
set_option maxRecDepth 100000 in
theorem con_X2_can {l : Launch} {G : YG} {σ : AH} {a : Nat} {ad : Nat → Nat} {M : MS} {S : AS} {m s k : Nat} (hM : MAt σ a ad M) (hG : GR (M.1 0) S) (hC : nC S ≤ 24) (hm : m < 24) (hs : s < 8) (hk : k = 1 ∨ k = 2) (h1 : k = 1 → hw S m s ≠ 1) (h2 : ∀ o, hw S o s ≤ 2) : Con l yX2_can cX2_can 5 (some FieldType.boolean) G 1 0 0 [.ref a, .int (nI m), .int (nI s), .int (nI k)] σ (PS σ (bI (canB S s m k))) := by
  refine con_of (by decide) (Nat.le_of_ble_eq_true rfl) ?_
  refine x_locs (L' := [(0, .ref a), (1, .int (nI m)), (2, .int (nI s)), (3, .int (nI k))]) [0, 1, 2, 3] rfl ?_
  refine x_iconst (v := nI 0) dX2_can_0 (by decide) ?_
  refine x_istore (i := 4) (L' := [(4, .int (nI 0)), (0, .ref a), (1, .int (nI m)), (2, .int (nI s)), (3, .int (nI k))]) dX2_can_1 (by decide) rfl ?_
  refine x_locs (L' := [(0, .ref a), (1, .int (nI m)), (2, .int (nI s)), (3, .int (nI k)), (4, .int (nI 0))]) [1, 2, 3, 4, 0] rfl ?_
  suffices loop : ∀ (d i : Nat), i + d = nC S → (∀ o, o < i → o ≠ m → (hw S o s = 0 ∨ (k = 1 ∧ hw S o s ≤ 1))) → X l yX2_can cX2_can 5 (some FieldType.boolean) [] G (yroom 1 0 0) (yEnd G (yroom 1 0 0) (PS σ (bI (canB S s m k)))) 3 [(0, .ref a), (1, .int (nI m)), (2, .int (nI s)), (3, .int (nI k)), (4, .int (nI i))] [] σ 0 0 from loop (nC S) 0 (by omega) (fun o h => absurd h (by omega))
  intro d
  induction d with
  | zero =>
    intro i hi inv
    refine x_iload dX2_can_3 4 rfl ?_
    refine x_aload_n dX2_can_5 0 rfl rfl ?_
    refine x_get dX2_can_6 vC_2 in_X2 hM.1 0 (by decide) q1876 rfl ?_
    refine x_iconst (v := nI 0) dX2_can_9 (by decide) ?_
    refine x_iald (N := 429) (j := 0) (v := nI (nC S)) dX2_can_10 (hM.2.1 0 rfl) (rfl) (by decide) (by decide) (hG.c) ?_
    refine x_icmp_ge (tgt := 65) dX2_can_11 (by decide) (fun _ => ?_) (fun h_ => absurd (by rw [← hi]; exact (nI_leI (by omega) (by omega)).mpr (by omega)) h_)
    refine x_iconst (v := nI 1) dX2_can_65 (by decide) ?_
    exact x_zret dX2_can_66 rfl (rfl) (pS' (show nI 1 = bI _ by rw [canB_iff.mpr (fun o ho => inv o (by omega))]; rfl))
  | succ d ih =>
    intro i hi inv
    refine x_iload dX2_can_3 4 rfl ?_
    refine x_aload_n dX2_can_5 0 rfl rfl ?_
    refine x_get dX2_can_6 vC_2 in_X2 hM.1 0 (by decide) q1876 rfl ?_
    refine x_iconst (v := nI 0) dX2_can_9 (by decide) ?_
    refine x_iald (N := 429) (j := 0) (v := nI (nC S)) dX2_can_10 (hM.2.1 0 rfl) (rfl) (by decide) (by decide) (hG.c) ?_
    refine x_icmp_ge (tgt := 65) dX2_can_11 (by decide) (fun h_ => absurd h_ (fun h => absurd (nLe (by omega) (by omega) h) (by omega))) (fun _ => ?_)
    refine x_iload dX2_can_14 4 rfl ?_
    refine x_iload_n dX2_can_16 1 rfl rfl ?_
    refine x_icmp_eq (tgt := 59) dX2_can_17 (by decide) (fun c1 => ?_) (fun c1 => ?_)
    · have c1 := nEq (by omega) (by omega) c1
      refine x_iinc (i := 4) (q := 4) (v := nI (i + 1)) (L' := [(4, .int (nI (i + 1))), (0, .ref a), (1, .int (nI m)), (2, .int (nI s)), (3, .int (nI k))]) dX2_can_59 rfl (nI_1 _) (by decide) rfl ?_
      refine x_goto (tgt := 3) dX2_can_62 (by decide) ?_
      refine x_locs (L' := [(0, .ref a), (1, .int (nI m)), (2, .int (nI s)), (3, .int (nI k)), (4, .int (nI (i + 1)))]) [1, 2, 3, 4, 0] rfl ?_
      exact ih (i + 1) (by omega) (fun o ho hne => by
        rcases Nat.lt_or_ge o i with q | q
        · exact inv o q hne
        · rw [show o = i by omega] at hne ⊢
          exact absurd c1 hne)
    · have hne : i ≠ m := nNe (by omega) (by omega) c1
      refine x_aload_n dX2_can_20 0 rfl rfl ?_
      refine x_iload dX2_can_21 4 rfl ?_
      refine x_iload_n dX2_can_23 2 rfl rfl ?_
      refine x_callV dX2_can_24 (con_X2_lock hM (m := i) (s := s) (by omega) hs) (lw_V q1977 q1979 qs46 q101 q1980) (np := 2) (by decide +kernel) rfl (rcv_of vC_2 hM.1) ⟨Nat.le_of_ble_eq_true rfl, Nat.le_of_ble_eq_true rfl⟩ (Nat.le_of_ble_eq_true rfl) rfl (by decide) (by decide) (rS ?_) nI'
      refine x_top (x' := nI (hw S i s)) (hG.hwE (by omega) hs) ?_
      refine x_iconst (v := nI 2) dX2_can_27 (by decide) ?_
      have hi2 := h2 i
      refine x_icmp_eq (tgt := 57) dX2_can_28 (by decide) (fun c2 => ?_) (fun c2 => ?_)
      · have c2 := nEq (by omega) (by omega) c2
        refine x_iconst (v := nI 0) dX2_can_57 (by decide) ?_
        exact x_zret dX2_can_58 rfl (rfl) (pS' (show nI 0 = bI _ by
            have hf : canB S s m k = false := by
              apply Bool.eq_false_iff.mpr
              intro hc
              have := canB_iff.mp hc i (by omega) hne
              omega
            rw [hf]; rfl))
      · have c2 := nNe (by omega) (by omega) c2
        refine x_aload_n dX2_can_31 0 rfl rfl ?_
        refine x_iload dX2_can_32 4 rfl ?_
        refine x_iload_n dX2_can_34 2 rfl rfl ?_
        refine x_callV dX2_can_35 (con_X2_lock hM (m := i) (s := s) (by omega) hs) (lw_V q1977 q1979 qs46 q101 q1980) (np := 2) (by decide +kernel) rfl (rcv_of vC_2 hM.1) ⟨Nat.le_of_ble_eq_true rfl, Nat.le_of_ble_eq_true rfl⟩ (Nat.le_of_ble_eq_true rfl) rfl (by decide) (by decide) (rS ?_) nI'
        refine x_top (x' := nI (hw S i s)) (hG.hwE (by omega) hs) ?_
        refine x_iconst (v := nI 1) dX2_can_38 (by decide) ?_
        refine x_icmp_ne (tgt := 59) dX2_can_39 (by decide) (fun c3 => ?_) (fun c3 => ?_)
        · have c3 := nNe (by omega) (by omega) c3
          refine x_iinc (i := 4) (q := 4) (v := nI (i + 1)) (L' := [(4, .int (nI (i + 1))), (0, .ref a), (1, .int (nI m)), (2, .int (nI s)), (3, .int (nI k))]) dX2_can_59 rfl (nI_1 _) (by decide) rfl ?_
          refine x_goto (tgt := 3) dX2_can_62 (by decide) ?_
          refine x_locs (L' := [(0, .ref a), (1, .int (nI m)), (2, .int (nI s)), (3, .int (nI k)), (4, .int (nI (i + 1)))]) [1, 2, 3, 4, 0] rfl ?_
          exact ih (i + 1) (by omega) (fun o ho hne => by
            rcases Nat.lt_or_ge o i with q | q
            · exact inv o q hne
            · rw [show o = i by omega] at hne ⊢
              exact Or.inl (by omega))
        · have c3 := nEq (by omega) (by omega) c3
          refine x_iload_n dX2_can_42 3 rfl rfl ?_
          refine x_iconst (v := nI 2) dX2_can_43 (by decide) ?_
          refine x_icmp_eq (tgt := 57) dX2_can_44 (by decide) (fun c4 => ?_) (fun c4 => ?_)
          · have c4 := nEq (by omega) (by omega) c4
            refine x_iconst (v := nI 0) dX2_can_57 (by decide) ?_
            exact x_zret dX2_can_58 rfl (rfl) (pS' (show nI 0 = bI _ by
                have hf : canB S s m k = false := by
                  apply Bool.eq_false_iff.mpr
                  intro hc
                  have := canB_iff.mp hc i (by omega) hne
                  omega
                rw [hf]; rfl))
          · have c4 := nNe (by omega) (by omega) c4
            refine x_aload_n dX2_can_47 0 rfl rfl ?_
            refine x_iload_n dX2_can_48 1 rfl rfl ?_
            refine x_iload_n dX2_can_49 2 rfl rfl ?_
            refine x_callV dX2_can_50 (con_X2_lock hM (m := m) (s := s) (by omega) hs) (lw_V q1977 q1979 qs46 q101 q1980) (np := 2) (by decide +kernel) rfl (rcv_of vC_2 hM.1) ⟨Nat.le_of_ble_eq_true rfl, Nat.le_of_ble_eq_true rfl⟩ (Nat.le_of_ble_eq_true rfl) rfl (by decide) (by decide) (rS ?_) nI'
            refine x_top (x' := nI (hw S m s)) (hG.hwE (by omega) hs) ?_
            refine x_iconst (v := nI 1) dX2_can_53 (by decide) ?_
            refine x_icmp_ne (tgt := 59) dX2_can_54 (by decide) (fun c5 => ?_) (fun c5 => ?_)
            · skip
              refine x_iinc (i := 4) (q := 4) (v := nI (i + 1)) (L' := [(4, .int (nI (i + 1))), (0, .ref a), (1, .int (nI m)), (2, .int (nI s)), (3, .int (nI k))]) dX2_can_59 rfl (nI_1 _) (by decide) rfl ?_
              refine x_goto (tgt := 3) dX2_can_62 (by decide) ?_
              refine x_locs (L' := [(0, .ref a), (1, .int (nI m)), (2, .int (nI s)), (3, .int (nI k)), (4, .int (nI (i + 1)))]) [1, 2, 3, 4, 0] rfl ?_
              exact ih (i + 1) (by omega) (fun o ho hne => by
                rcases Nat.lt_or_ge o i with q | q
                · exact inv o q hne
                · rw [show o = i by omega] at hne ⊢
                  exact Or.inr ⟨by omega, by omega⟩)
            · exact absurd (nEq (by have := h2 m; omega) (by omega) c5) (h1 (by omega))
