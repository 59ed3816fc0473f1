set_option maxRecDepth 100000
set_option maxHeartbeats 4000000 in
set_option maxRecDepth 100000 in
theorem con_X2_of {l : Launch} {G : YG} {σ : AH} {a : Nat} {ad : Nat → Nat} {M : MS} {m w : Nat} (hM : MAt σ a ad M) (hm : m < 24) (hw : w < 6) : Con l yX2_of cX2_of 3 (some FieldType.int) G 0 0 0 [.ref a, .int (nI m), .int (nI w)] σ (PI fun z τ => τ = σ ∧ z = M.1 0 (5 + 6 * m + w)) := by
  refine con_of (by decide) (Nat.le_of_ble_eq_true rfl) ?_
  refine x_locs (L' := [(0, .ref a), (1, .int (nI m)), (2, .int (nI w))]) [0, 1, 2] rfl ?_
  refine x_aload_n dX2_of_0 0 rfl rfl ?_
  refine x_get dX2_of_1 vC_2 in_X2 hM.1 0 (by decide) q1876 rfl ?_
  refine x_iconst (v := nI 5) dX2_of_4 (by decide) ?_
  refine x_bipush (v := nI 6) dX2_of_5 (by decide) ?_
  refine x_iload_n dX2_of_7 1 rfl rfl ?_
  refine x_imul dX2_of_8 ?_
  refine x_top (x' := nI (6 * m)) (pk_mul _ _) ?_
  refine x_iadd dX2_of_9 ?_
  refine x_top (x' := nI (5 + (6 * m))) (nI_add _ _) ?_
  refine x_iload_n dX2_of_10 2 rfl rfl ?_
  refine x_iadd dX2_of_11 ?_
  refine x_top (x' := nI (5 + (6 * m) + w)) (nI_add _ _) ?_
  refine x_iald (N := 429) (j := 5 + 6 * m + w) (v := (M.1 0 (5 + 6 * m + w))) dX2_of_12 (hM.2.1 0 rfl) (rfl) (by omega) (by decide) (rfl) ?_
  exact x_iret dX2_of_13 rfl (⟨_, rfl, rfl, rfl⟩)
set_option maxHeartbeats 4000000 in
set_option maxRecDepth 100000 in
theorem con_X2_lays {l : Launch} {G : YG} {σ : AH} {a : Nat} {ad : Nat → Nat} {M : MS} {m w : Nat} {v : Int32} (hM : MAt σ a ad M) (hm : m < 24) (hw : w < 6) : Con l yX2_lays cX2_lays 4 none G 0 0 0 [.ref a, .int (nI m), .int (nI w), .int v] σ (PV fun τ => MAt τ a ad (mG1 M (5 + 6 * m + w) v) ∧ MF a ad σ τ) := by
  refine con_of (by decide) (Nat.le_of_ble_eq_true rfl) ?_
  refine x_locs (L' := [(0, .ref a), (1, .int (nI m)), (2, .int (nI w)), (3, .int v)]) [0, 1, 2, 3] rfl ?_
  refine x_aload_n dX2_lays_0 0 rfl rfl ?_
  refine x_get dX2_lays_1 vC_2 in_X2 hM.1 0 (by decide) q1876 rfl ?_
  refine x_iconst (v := nI 5) dX2_lays_4 (by decide) ?_
  refine x_bipush (v := nI 6) dX2_lays_5 (by decide) ?_
  refine x_iload_n dX2_lays_7 1 rfl rfl ?_
  refine x_imul dX2_lays_8 ?_
  refine x_top (x' := nI (6 * m)) (pk_mul _ _) ?_
  refine x_iadd dX2_lays_9 ?_
  refine x_top (x' := nI (5 + (6 * m))) (nI_add _ _) ?_
  refine x_iload_n dX2_lays_10 2 rfl rfl ?_
  refine x_iadd dX2_lays_11 ?_
  refine x_top (x' := nI (5 + (6 * m) + w)) (nI_add _ _) ?_
  refine x_iload_n dX2_lays_12 3 rfl rfl ?_
  refine x_iast (N := 429) (j := 5 + 6 * m + w) dX2_lays_13 (hM.2.1 0 rfl) rfl (by omega) (by decide) (fun τ h1 h2 => ?_)
  have h3 := hM.arr (k := 0) rfl h1 h2
  exact x_vret dX2_lays_14 rfl (⟨rfl, h3⟩)
set_option maxHeartbeats 4000000 in
set_option maxRecDepth 100000 in
theorem con_X2_lock {l : Launch} {G : YG} {σ : AH} {a : Nat} {ad : Nat → Nat} {M : MS} {m s : Nat} (hM : MAt σ a ad M) (hm : m < 24) (hs : s < 8) : Con l yX2_lock cX2_lock 3 (some FieldType.int) G 0 0 0 [.ref a, .int (nI m), .int (nI s)] σ (PI fun z τ => τ = σ ∧ z = M.1 0 (149 + 8 * m + s)) := by
  refine con_of (by decide) (Nat.le_of_ble_eq_true rfl) ?_
  refine x_locs (L' := [(0, .ref a), (1, .int (nI m)), (2, .int (nI s))]) [0, 1, 2] rfl ?_
  refine x_aload_n dX2_lock_0 0 rfl rfl ?_
  refine x_get dX2_lock_1 vC_2 in_X2 hM.1 0 (by decide) q1876 rfl ?_
  refine x_sipush (v := nI 149) dX2_lock_4 (by decide) ?_
  refine x_bipush (v := nI 8) dX2_lock_7 (by decide) ?_
  refine x_iload_n dX2_lock_9 1 rfl rfl ?_
  refine x_imul dX2_lock_10 ?_
  refine x_top (x' := nI (8 * m)) (pk_mul _ _) ?_
  refine x_iadd dX2_lock_11 ?_
  refine x_top (x' := nI (149 + (8 * m))) (nI_add _ _) ?_
  refine x_iload_n dX2_lock_12 2 rfl rfl ?_
  refine x_iadd dX2_lock_13 ?_
  refine x_top (x' := nI (149 + (8 * m) + s)) (nI_add _ _) ?_
  refine x_iald (N := 429) (j := 149 + 8 * m + s) (v := (M.1 0 (149 + 8 * m + s))) dX2_lock_14 (hM.2.1 0 rfl) (rfl) (by omega) (by decide) (rfl) ?_
  exact x_iret dX2_lock_15 rfl (⟨_, rfl, rfl, rfl⟩)
set_option maxHeartbeats 4000000 in
set_option maxRecDepth 100000 in
theorem con_X2_locks {l : Launch} {G : YG} {σ : AH} {a : Nat} {ad : Nat → Nat} {M : MS} {m s : Nat} {v : Int32} (hM : MAt σ a ad M) (hm : m < 24) (hs : s < 8) : Con l yX2_locks cX2_locks 4 none G 0 0 0 [.ref a, .int (nI m), .int (nI s), .int v] σ (PV fun τ => MAt τ a ad (mG1 M (149 + 8 * m + s) v) ∧ MF a ad σ τ) := by
  refine con_of (by decide) (Nat.le_of_ble_eq_true rfl) ?_
  refine x_locs (L' := [(0, .ref a), (1, .int (nI m)), (2, .int (nI s)), (3, .int v)]) [0, 1, 2, 3] rfl ?_
  refine x_aload_n dX2_locks_0 0 rfl rfl ?_
  refine x_get dX2_locks_1 vC_2 in_X2 hM.1 0 (by decide) q1876 rfl ?_
  refine x_sipush (v := nI 149) dX2_locks_4 (by decide) ?_
  refine x_bipush (v := nI 8) dX2_locks_7 (by decide) ?_
  refine x_iload_n dX2_locks_9 1 rfl rfl ?_
  refine x_imul dX2_locks_10 ?_
  refine x_top (x' := nI (8 * m)) (pk_mul _ _) ?_
  refine x_iadd dX2_locks_11 ?_
  refine x_top (x' := nI (149 + (8 * m))) (nI_add _ _) ?_
  refine x_iload_n dX2_locks_12 2 rfl rfl ?_
  refine x_iadd dX2_locks_13 ?_
  refine x_top (x' := nI (149 + (8 * m) + s)) (nI_add _ _) ?_
  refine x_iload_n dX2_locks_14 3 rfl rfl ?_
  refine x_iast (N := 429) (j := 149 + 8 * m + s) dX2_locks_15 (hM.2.1 0 rfl) rfl (by omega) (by decide) (fun τ h1 h2 => ?_)
  have h3 := hM.arr (k := 0) rfl h1 h2
  exact x_vret dX2_locks_16 rfl (⟨rfl, h3⟩)
set_option maxHeartbeats 4000000 in
set_option maxRecDepth 100000 in
theorem con_X2_shelf {l : Launch} {G : YG} {σ : AH} {a : Nat} {ad : Nat → Nat} {M : MS} {s w : Nat} (hM : MAt σ a ad M) (hs : s < 8) (hw : w < 11) : Con l yX2_shelf cX2_shelf 3 (some FieldType.int) G 0 0 0 [.ref a, .int (nI s), .int (nI w)] σ (PI fun z τ => τ = σ ∧ z = M.1 0 (341 + 11 * s + w)) := by
  refine con_of (by decide) (Nat.le_of_ble_eq_true rfl) ?_
  refine x_locs (L' := [(0, .ref a), (1, .int (nI s)), (2, .int (nI w))]) [0, 1, 2] rfl ?_
  refine x_aload_n dX2_shelf_0 0 rfl rfl ?_
  refine x_get dX2_shelf_1 vC_2 in_X2 hM.1 0 (by decide) q1876 rfl ?_
  refine x_sipush (v := nI 341) dX2_shelf_4 (by decide) ?_
  refine x_bipush (v := nI 11) dX2_shelf_7 (by decide) ?_
  refine x_iload_n dX2_shelf_9 1 rfl rfl ?_
  refine x_imul dX2_shelf_10 ?_
  refine x_top (x' := nI (11 * s)) (pk_mul _ _) ?_
  refine x_iadd dX2_shelf_11 ?_
  refine x_top (x' := nI (341 + (11 * s))) (nI_add _ _) ?_
  refine x_iload_n dX2_shelf_12 2 rfl rfl ?_
  refine x_iadd dX2_shelf_13 ?_
  refine x_top (x' := nI (341 + (11 * s) + w)) (nI_add _ _) ?_
  refine x_iald (N := 429) (j := 341 + 11 * s + w) (v := (M.1 0 (341 + 11 * s + w))) dX2_shelf_14 (hM.2.1 0 rfl) (rfl) (by omega) (by decide) (rfl) ?_
  exact x_iret dX2_shelf_15 rfl (⟨_, rfl, rfl, rfl⟩)
set_option maxHeartbeats 4000000 in
set_option maxRecDepth 100000 in
theorem con_X2_shelves {l : Launch} {G : YG} {σ : AH} {a : Nat} {ad : Nat → Nat} {M : MS} {s w : Nat} {v : Int32} (hM : MAt σ a ad M) (hs : s < 8) (hw : w < 11) : Con l yX2_shelves cX2_shelves 4 none G 0 0 0 [.ref a, .int (nI s), .int (nI w), .int v] σ (PV fun τ => MAt τ a ad (mG1 M (341 + 11 * s + w) v) ∧ MF a ad σ τ) := by
  refine con_of (by decide) (Nat.le_of_ble_eq_true rfl) ?_
  refine x_locs (L' := [(0, .ref a), (1, .int (nI s)), (2, .int (nI w)), (3, .int v)]) [0, 1, 2, 3] rfl ?_
  refine x_aload_n dX2_shelves_0 0 rfl rfl ?_
  refine x_get dX2_shelves_1 vC_2 in_X2 hM.1 0 (by decide) q1876 rfl ?_
  refine x_sipush (v := nI 341) dX2_shelves_4 (by decide) ?_
  refine x_bipush (v := nI 11) dX2_shelves_7 (by decide) ?_
  refine x_iload_n dX2_shelves_9 1 rfl rfl ?_
  refine x_imul dX2_shelves_10 ?_
  refine x_top (x' := nI (11 * s)) (pk_mul _ _) ?_
  refine x_iadd dX2_shelves_11 ?_
  refine x_top (x' := nI (341 + (11 * s))) (nI_add _ _) ?_
  refine x_iload_n dX2_shelves_12 2 rfl rfl ?_
  refine x_iadd dX2_shelves_13 ?_
  refine x_top (x' := nI (341 + (11 * s) + w)) (nI_add _ _) ?_
  refine x_iload_n dX2_shelves_14 3 rfl rfl ?_
  refine x_iast (N := 429) (j := 341 + 11 * s + w) dX2_shelves_15 (hM.2.1 0 rfl) rfl (by omega) (by decide) (fun τ h1 h2 => ?_)
  have h3 := hM.arr (k := 0) rfl h1 h2
  exact x_vret dX2_shelves_16 rfl (⟨rfl, h3⟩)
