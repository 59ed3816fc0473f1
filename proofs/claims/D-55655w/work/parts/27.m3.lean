set_option maxRecDepth 100000
set_option maxHeartbeats 4000000 in
set_option maxRecDepth 100000 in
theorem con_X2_has {l : Launch} {G : YG} {σ : AH} {a : Nat} {ad : Nat → Nat} {M : MS} {S : AS} {m s k : Nat} {b : Bool} (hM : MAt σ a ad M) (hG : GR (M.1 0) S) (hC : nC S ≤ 24) (hL : ∀ s, s < 8 → (qu S s).length ≤ 8) (hm : m < 24) (hs : s < 8) : Con l yX2_has cX2_has 4 none G 1 0 0 [.ref a, .int (nI m), .int (nI s), .int (nI k)] σ (PV fun τ => GP a ad σ M (giveW S s (m, k, b)) τ) := by
  refine con_of (by decide) (Nat.le_of_ble_eq_true rfl) ?_
  refine x_locs (L' := [(0, .ref a), (1, .int (nI m)), (2, .int (nI s)), (3, .int (nI k))]) [0, 1, 2, 3] rfl ?_
  refine x_aload_n dX2_has_0 0 rfl rfl ?_
  refine x_iload_n dX2_has_1 1 rfl rfl ?_
  refine x_iload_n dX2_has_2 2 rfl rfl ?_
  refine x_iload_n dX2_has_3 3 rfl rfl ?_
  refine x_callV dX2_has_4 (con_X2_locks hM (m := m) (s := s) (v := nI k) hm hs) (lw_V q2001 q2003 qs52 q101 q2004) (np := 3) (by decide +kernel) rfl (rcv_of vC_2 hM.1) ⟨Nat.le_of_ble_eq_true rfl, Nat.le_of_ble_eq_true rfl⟩ (Nat.le_of_ble_eq_true rfl) rfl (by decide) (by decide) (rV fun σ2 h1 => ?_) nV'
  obtain ⟨M4, hAM4, hFM4, h0M4, hGM4⟩ : GP a ad σ M ((sHw S (fset (hw S) m (fset (hw S m) s k)))) σ2 := GP.g1 (j := 149 + 8 * m + s) (v := nI k) MF.rf M0.rf h1 (GR.sHw hG hC hL hm hs)
  refine x_aload_n dX2_has_7 0 rfl rfl ?_
  refine x_iload_n dX2_has_8 1 rfl rfl ?_
  refine x_iconst (v := nI 5) dX2_has_9 (by decide) ?_
  refine x_aload_n dX2_has_10 0 rfl rfl ?_
  refine x_iload_n dX2_has_11 1 rfl rfl ?_
  refine x_iconst (v := nI 5) dX2_has_12 (by decide) ?_
  refine x_callV dX2_has_13 (con_X2_of hAM4 (m := m) (w := 5) hm (by decide)) (lw_V q1966 q1968 qs44 q101 q1969) (np := 2) (by decide +kernel) rfl (rcv_of vC_2 hAM4.1) ⟨Nat.le_of_ble_eq_true rfl, Nat.le_of_ble_eq_true rfl⟩ (Nat.le_of_ble_eq_true rfl) rfl (by decide) (by decide) (rS ?_) nI'
  refine x_top (x' := nI (gT S m)) ((hGM4.2.1 m hm).2.2.2) ?_
  refine x_iconst (v := nI 1) dX2_has_16 (by decide) ?_
  refine x_iadd dX2_has_17 ?_
  refine x_top (x' := nI (gT S m + 1)) (nI_add _ _) ?_
  refine x_callV dX2_has_18 (con_X2_lays hAM4 (m := m) (w := 5) (v := nI (gT S m + 1)) hm (by decide)) (lw_V q1951 q1953 qs42 q101 q1954) (np := 3) (by decide +kernel) rfl (rcv_of vC_2 hAM4.1) ⟨Nat.le_of_ble_eq_true rfl, Nat.le_of_ble_eq_true rfl⟩ (Nat.le_of_ble_eq_true rfl) rfl (by decide) (by decide) (rV fun σ7 h6 => ?_) nV'
  obtain ⟨M9, hAM9, hFM9, h0M9, hGM9⟩ : GP a ad σ M ((sGT (sHw S (fset (hw S) m (fset (hw S m) s k))) (fset (gT S) m (gT S m + 1)))) σ7 := GP.g1 (j := 5 + 6 * m + 5) (v := nI (gT S m + 1)) hFM4 h0M4 h6 (GR.sGT (S := (sHw S (fset (hw S) m (fset (hw S m) s k)))) hGM4 hC hL hm)
  refine x_aload_n dX2_has_21 0 rfl rfl ?_
  refine x_iload_n dX2_has_22 2 rfl rfl ?_
  refine x_iconst (v := nI 0) dX2_has_23 (by decide) ?_
  refine x_aload_n dX2_has_24 0 rfl rfl ?_
  refine x_iload_n dX2_has_25 2 rfl rfl ?_
  refine x_iconst (v := nI 0) dX2_has_26 (by decide) ?_
  refine x_callV dX2_has_27 (con_X2_shelf hAM9 (s := s) (w := 0) hs (by decide)) (lw_V q1989 q1991 qs49 q101 q1992) (np := 2) (by decide +kernel) rfl (rcv_of vC_2 hAM9.1) ⟨Nat.le_of_ble_eq_true rfl, Nat.le_of_ble_eq_true rfl⟩ (Nat.le_of_ble_eq_true rfl) rfl (by decide) (by decide) (rS ?_) nI'
  refine x_top (x' := nI (gN S s)) ((hGM9.2.2.2.2.1 s hs).1) ?_
  refine x_iconst (v := nI 1) dX2_has_30 (by decide) ?_
  refine x_iadd dX2_has_31 ?_
  refine x_top (x' := nI (gN S s + 1)) (nI_add _ _) ?_
  refine x_callV dX2_has_32 (con_X2_shelves hAM9 (s := s) (w := 0) (v := nI (gN S s + 1)) hs (by decide)) (lw_V q2005 q2007 qs53 q101 q2008) (np := 3) (by decide +kernel) rfl (rcv_of vC_2 hAM9.1) ⟨Nat.le_of_ble_eq_true rfl, Nat.le_of_ble_eq_true rfl⟩ (Nat.le_of_ble_eq_true rfl) rfl (by decide) (by decide) (rV fun σ12 h11 => ?_) nV'
  obtain ⟨hA9, hF9⟩ := h11
  refine x_aload_n dX2_has_35 0 rfl rfl ?_
  refine x_get dX2_has_36 vC_2 in_X2 hA9.1 0 (by decide) q1876 rfl ?_
  refine x_iconst (v := nI 2) dX2_has_39 (by decide) ?_
  refine x_dup2_11 dX2_has_40 rfl rfl ?_
  refine x_iald (N := 429) (j := 2) (v := nI (sm (gN S) 8)) dX2_has_41 (hA9.2.1 0 rfl) (rfl) (by decide) (by decide) ((pk_un (by omega)).trans hGM9.1.2.2.1) ?_
  refine x_iconst (v := nI 1) dX2_has_42 (by decide) ?_
  refine x_iadd dX2_has_43 ?_
  refine x_top (x' := nI (sm (gN S) 8 + 1)) (nI_add _ _) ?_
  refine x_iast (N := 429) (j := 2) (w := nI (sm (gN S) 8 + 1)) dX2_has_44 (hA9.2.1 0 rfl) rfl (by decide) (by decide) (fun σ15 h16 h17 => ?_)
  obtain ⟨M14, hAM14, hFM14, h0M14, hGM14⟩ : GP a ad σ M (giveW S s (m, k, b)) σ15 := GP.gA (f := upd ((mG1 M9 (341 + 11 * s + 0) (nI (gN S s + 1))).1 0) (2) (nI (sm (gN S) 8 + 1))) (MF.tr hFM9 hF9) (M0.tr h0M9 M0.g1) (hA9.arr (k := 0) rfl h16 h17) (GR.sGN (S := (sGT (sHw S (fset (hw S) m (fset (hw S m) s k))) (fset (gT S) m (gT S m + 1)))) hGM9 hC hL hs)
  exact x_vret dX2_has_45 rfl (⟨rfl, ⟨M14, hAM14, hFM14, h0M14, hGM14⟩⟩)
