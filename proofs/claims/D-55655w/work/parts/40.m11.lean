set_option maxRecDepth 100000
set_option maxHeartbeats 4000000 in
set_option maxRecDepth 100000 in
theorem con_X2_maid {l : Launch} {G : YG} {σ : AH} {a : Nat} {ad : Nat → Nat} {M : MS} {c : CS} {wi : Bool} (hM : MAt σ a ad M) (hC : CR M c) (hI : IVs c) (hW : M.2 7 = bI wi) : Con l yX2_maid cX2_maid 2 (some FieldType.int) G 2 0 0 [.ref a] σ (PI fun z τ => z = (coMaid wi c).1 ∧ CP a ad σ M (coMaid wi c).2 τ) := by
  refine con_of (by decide) (Nat.le_of_ble_eq_true rfl) ?_
  refine x_locs (L' := [(0, .ref a)]) [0] rfl ?_
  have hC24 := hI.1.c
  have hE : nE c.1 ≤ nC c.1 := by have := hI.1.2.2.2.2.2.2.2.2.1; omega
  refine x_aload_n dX2_maid_0 0 rfl rfl ?_
  refine x_get dX2_maid_1 vC_2 in_X2 hM.1 0 (by decide) q1876 rfl ?_
  refine x_iconst (v := nI 0) dX2_maid_4 (by decide) ?_
  refine x_iald (N := 429) (j := 0) (v := nI (nC c.1)) dX2_maid_5 (hM.2.1 0 rfl) (rfl) (by decide) (by decide) (hC.1.c) ?_
  refine x_bipush (v := nI 24) dX2_maid_6 (by decide) ?_
  refine x_icmp_ne (tgt := 19) dX2_maid_8 (by decide) (fun c1 => ?_) (fun c1 => ?_)
  · have c1 := nNe (by omega) (by decide) c1
    refine x_aload_n dX2_maid_19 0 rfl rfl ?_
    refine x_callV dX2_maid_20 (con_X2_there hM hC.1 hE) (lw_V q1940 q1942 qs40 q101 q1943) (np := 0) (by decide +kernel) rfl (rcv_of vC_2 hM.1) ⟨Nat.le_of_ble_eq_true rfl, Nat.le_of_ble_eq_true rfl⟩ (Nat.le_of_ble_eq_true rfl) rfl (by decide) (by decide) (rS ?_) nI'
    refine x_bipush (v := nI 8) dX2_maid_23 (by decide) ?_
    refine x_icmp_ne (tgt := 36) dX2_maid_25 (by decide) (fun c2 => ?_) (fun c2 => ?_)
    · have c2 := nNe (by omega) (by decide) c2
      have hco : coMaid wi c = (nI (nC c.1), (sNC (sTH c.1 (fset (tH c.1) (nC c.1) true)) (nC c.1 + 1), (if wi then c.2.1 else pushP c.2.1 c.1), c.2.2)) := by
        unfold coMaid doR opMaid
        rw [if_neg c1, if_neg c2]
      refine x_aload_n dX2_maid_36 0 rfl rfl ?_
      refine x_aload_n dX2_maid_37 0 rfl rfl ?_
      refine x_get dX2_maid_38 vC_2 in_X2 hM.1 0 (by decide) q1876 rfl ?_
      refine x_callV dX2_maid_41 (con_X2_keeps hM (r := 0) (Or.inl rfl) hC.1 hI.1 (past := c.2.1) hC.2.1 hI.2 (wi := wi) hW) (lw_V q1944 q1946 qs41 q101 q1947) (np := 1) (by decide +kernel) rfl (rcv_of vC_2 hM.1) ⟨Nat.le_of_ble_eq_true rfl, Nat.le_of_ble_eq_true rfl⟩ (Nat.le_of_ble_eq_true rfl) rfl (by decide) (by decide) (rV fun σ2 h9 => ?_) nV'
      obtain ⟨N, hN, hFN, hNi, hNj, hKN⟩ := h9
      have hG0 : GR (N.1 0) c.1 := by rw [hNi 0 (by decide)]; exact hC.1
      refine x_aload_n dX2_maid_44 0 rfl rfl ?_
      refine x_get dX2_maid_45 vC_2 in_X2 hN.1 0 (by decide) q1876 rfl ?_
      refine x_iconst (v := nI 0) dX2_maid_48 (by decide) ?_
      refine x_iald (N := 429) (j := 0) (v := nI (nC c.1)) dX2_maid_49 (hN.2.1 0 rfl) (rfl) (by decide) (by decide) (hG0.c) ?_
      refine x_istore_n (i := 1) (L' := [(1, .int (nI (nC c.1))), (0, .ref a)]) dX2_maid_50 rfl (by decide) rfl ?_
      refine x_aload_n dX2_maid_51 1 rfl rfl ?_
      refine x_get dX2_maid_52 vC_2 in_X2 hN.1 0 (by decide) q1876 rfl ?_
      refine x_iconst (v := nI 0) dX2_maid_55 (by decide) ?_
      refine x_dup2_11 dX2_maid_56 rfl rfl ?_
      refine x_iald (N := 429) (j := 0) (v := nI (nC c.1)) dX2_maid_57 (hN.2.1 0 rfl) (rfl) (by decide) (by decide) (hG0.c) ?_
      refine x_iconst (v := nI 1) dX2_maid_58 (by decide) ?_
      refine x_iadd dX2_maid_59 ?_
      refine x_top (x' := nI (nC c.1 + 1)) (nI_add _ _) ?_
      refine x_iast (N := 429) (j := 0) (w := nI (nC c.1 + 1)) dX2_maid_60 (hN.2.1 0 rfl) rfl (by decide) (by decide) (fun σ8 g8 f8 => ?_)
      obtain ⟨hA8, hF8⟩ := hN.arr (k := 0) rfl g8 f8
      refine x_aload_n dX2_maid_61 1 rfl rfl ?_
      refine x_iload_n dX2_maid_62 0 rfl rfl ?_
      refine x_iconst (v := nI 0) dX2_maid_63 (by decide) ?_
      refine x_iconst (v := nI 1) dX2_maid_64 (by decide) ?_
      refine x_callV dX2_maid_65 (con_X2_lays hA8 (m := nC c.1) (w := 0) (v := nI 1) (by omega) (by decide)) (lw_V q1951 q1953 qs42 q101 q1954) (np := 3) (by decide +kernel) rfl (rcv_of vC_2 hA8.1) ⟨Nat.le_of_ble_eq_true rfl, Nat.le_of_ble_eq_true rfl⟩ (Nat.le_of_ble_eq_true rfl) rfl (by decide) (by decide) (rV fun σ4 h7 => ?_) nV'
      obtain ⟨hA7, hF7⟩ := h7
      refine x_aload_n dX2_maid_68 1 rfl rfl ?_
      refine x_iload_n dX2_maid_69 0 rfl rfl ?_
      refine x_iconst (v := nI 1) dX2_maid_70 (by decide) ?_
      refine x_iconst (v := (-1)) dX2_maid_71 (by decide) ?_
      refine x_callV dX2_maid_72 (con_X2_lays hA7 (m := nC c.1) (w := 1) (v := (-1)) (by omega) (by decide)) (lw_V q1951 q1953 qs42 q101 q1954) (np := 3) (by decide +kernel) rfl (rcv_of vC_2 hA7.1) ⟨Nat.le_of_ble_eq_true rfl, Nat.le_of_ble_eq_true rfl⟩ (Nat.le_of_ble_eq_true rfl) rfl (by decide) (by decide) (rV fun σ6 h6 => ?_) nV'
      obtain ⟨hA6, hF6⟩ := h6
      refine x_iload_n dX2_maid_75 0 rfl rfl ?_
      exact x_iret dX2_maid_76 rfl (⟨_, rfl, by rw [hco], by rw [hco]; exact CP.fin hC hFN hNi (fun j a _ => hNj j a) hKN ⟨_, hA6, (hF8.tr hF7).tr hF6, (M0.gA.tr M0.g1).tr M0.g1, gr_maid hG0 hI.1 (by omega)⟩⟩)
    · have c2 := nEq (by omega) (by decide) c2
      have hco : coMaid wi c = (-14, (c.1, c.2.1, nI 1, nI 8)) := by
        unfold coMaid doR opMaid
        rw [if_neg c1, if_pos c2]
      refine x_aload_n dX2_maid_28 0 rfl rfl ?_
      refine x_iconst (v := nI 1) dX2_maid_29 (by decide) ?_
      refine x_bipush (v := nI 8) dX2_maid_30 (by decide) ?_
      refine x_callV dX2_maid_32 (con_X2_refuses hM) (lw_V q1936 q1938 qs39 q101 q1939) (np := 2) (by decide +kernel) rfl (rcv_of vC_2 hM.1) ⟨Nat.le_of_ble_eq_true rfl, Nat.le_of_ble_eq_true rfl⟩ (Nat.le_of_ble_eq_true rfl) rfl (by decide) (by decide) (rI fun r9 σ8 h1 => ?_) nI'
      exact x_iret dX2_maid_35 rfl (⟨_, rfl, by rw [hco]; exact h1.1, by rw [hco]; exact CP.ref hC rfl (fun _ _ => rfl) h1.2.1 h1.2.2⟩)
  · have c1 := nEq (by omega) (by decide) c1
    have hco : coMaid wi c = (-14, (c.1, c.2.1, nI 1, nI 24)) := by
      unfold coMaid doR opMaid
      rw [if_pos c1]
    refine x_aload_n dX2_maid_11 0 rfl rfl ?_
    refine x_iconst (v := nI 1) dX2_maid_12 (by decide) ?_
    refine x_bipush (v := nI 24) dX2_maid_13 (by decide) ?_
    refine x_callV dX2_maid_15 (con_X2_refuses hM) (lw_V q1936 q1938 qs39 q101 q1939) (np := 2) (by decide +kernel) rfl (rcv_of vC_2 hM.1) ⟨Nat.le_of_ble_eq_true rfl, Nat.le_of_ble_eq_true rfl⟩ (Nat.le_of_ble_eq_true rfl) rfl (by decide) (by decide) (rI fun r11 σ10 h1 => ?_) nI'
    exact x_iret dX2_maid_18 rfl (⟨_, rfl, by rw [hco]; exact h1.1, by rw [hco]; exact CP.ref hC rfl (fun _ _ => rfl) h1.2.1 h1.2.2⟩)
set_option maxHeartbeats 4000000 in
set_option maxRecDepth 100000 in
theorem con_X2_want {l : Launch} {G : YG} {σ : AH} {a : Nat} {ad : Nat → Nat} {M : MS} {c : CS} {wi b : Bool} {v u : Int32} (hM : MAt σ a ad M) (hC : CR M c) (hI : IVs c) (hW : M.2 7 = bI wi) (hQ : IQ c.1) : Con l yX2_want cX2_want 6 (some FieldType.int) G 7 0 0 [.ref a, .int v, .int u, .int (bI b)] σ (PI fun z τ => z = (coWant wi c v u b).1 ∧ CP a ad σ M (coWant wi c v u b).2 τ) := by
  refine con_of (by decide) (Nat.le_of_ble_eq_true rfl) ?_
  refine x_locs (L' := [(0, .ref a), (1, .int v), (2, .int u), (3, .int (bI b))]) [0, 1, 2, 3] rfl ?_
  refine x_aload_n dX2_want_0 0 rfl rfl ?_
  refine x_iload_n dX2_want_1 1 rfl rfl ?_
  refine x_callV dX2_want_2 (con_X2_isMaid hM hC.1 hI.1 (v := v)) (lw_V q1959 q1961 qs43 q101 q1962) (np := 1) (by decide +kernel) rfl (rcv_of vC_2 hM.1) ⟨Nat.le_of_ble_eq_true rfl, Nat.le_of_ble_eq_true rfl⟩ (Nat.le_of_ble_eq_true rfl) rfl (by decide) (by decide) (rS ?_) nI'
  refine x_if_eq (tgt := 15) dX2_want_5 (by decide) (fun c1 => ?_) (fun c1 => ?_)
  · have c1 := bI_0 c1
    have hco : coWant wi c v u b = (-11, c) := by unfold coWant; rw [c1]; rfl
    refine x_bipush (v := (-11)) dX2_want_15 (by decide) ?_
    exact x_iret dX2_want_17 rfl (⟨_, rfl, by rw [hco], by rw [hco]; exact CP.rf hM hC⟩)
  · have c1 := bI_1 c1
    refine x_iload_n dX2_want_8 2 rfl rfl ?_
    refine x_callS dX2_want_9 (con_X2_isShelf (v := u)) (lw_S q1970 q1971 q101 q1972) (np := 1) (by decide +kernel) rfl ⟨Nat.le_of_ble_eq_true rfl, Nat.le_of_ble_eq_true rfl⟩ (Nat.le_of_ble_eq_true rfl) rfl (by decide) (by decide) (rS ?_) nI'
    refine x_if_ne (tgt := 18) dX2_want_12 (by decide) (fun c2 => ?_) (fun c2 => ?_)
    · have c2 : isS u = true := bI_1 c2
      obtain ⟨m, hm, rfl, hvn, htm⟩ := isT_of hI.1.c c1
      obtain ⟨s, hs, rfl, hun⟩ := isS_of c2
      have hC24 := hI.1.c
      have hm24 : m < 24 := by omega
      obtain ⟨k, hk⟩ : ∃ k, k = if b = true then 2 else 1 := ⟨_, rfl⟩
      have hk12 : k = 1 ∨ k = 2 := by rw [hk]; split <;> omega
      have h2 := hI.1.2.2.1 m s
      have hco : coWant wi c (nI m) (nI s) b = doR wi c (opWant c.1 m s k) := by unfold coWant; rw [c1, c2, hvn, hun, hk]; rfl
      have tail : X l yX2_want cX2_want 6 (some FieldType.int) [] G (yroom 7 0 0) (yEnd G (yroom 7 0 0) (PI fun z τ => z = (coWant wi c (nI m) (nI s) b).1 ∧ CP a ad σ M (coWant wi c (nI m) (nI s) b).2 τ)) 27 [(0, .ref a), (1, .int (nI m)), (2, .int (nI s)), (3, .int (bI b))] [.int (nI k)] σ 0 0 := by
        refine x_istore (i := 4) (L' := [(4, .int (nI k)), (0, .ref a), (1, .int (nI m)), (2, .int (nI s)), (3, .int (bI b))]) dX2_want_27 (by decide) rfl ?_
        refine x_aload_n dX2_want_29 1 rfl rfl ?_
        refine x_iload_n dX2_want_30 2 rfl rfl ?_
        refine x_iload_n dX2_want_31 3 rfl rfl ?_
        refine x_iload dX2_want_32 0 rfl ?_
        refine x_callV dX2_want_34 (con_X2_bars hM hC.1 hI.1 (m := m) (s := s) (k := k) hm hs (by omega)) (lw_V q1973 q1975 qs45 q101 q1976) (np := 3) (by decide +kernel) rfl (rcv_of vC_2 hM.1) ⟨Nat.le_of_ble_eq_true rfl, Nat.le_of_ble_eq_true rfl⟩ (Nat.le_of_ble_eq_true rfl) rfl (by decide) (by decide) (rI fun z σ3 h1 => ?_) nI'
        obtain ⟨rfl, v0, hB, hFB, hv0⟩ := h1
        refine x_istore (i := 5) (L' := [(5, .int (nI (barN (bar c.1 m s k)))), (4, .int (nI k)), (0, .ref a), (1, .int (nI m)), (2, .int (nI s)), (3, .int (bI b))]) dX2_want_37 (by decide) rfl ?_
        refine x_iload dX2_want_39 0 rfl ?_
        cases hb : bar c.1 m s k with
        | some r =>
          have hr1 : 0 < r.1 := by
            unfold bar at hb
            split at hb
            · cases hb; exact Nat.le_of_ble_eq_true rfl
            · split at hb
              · cases hb; exact Nat.le_of_ble_eq_true rfl
              · cases hb
          have hr3 : r.1 < 4 := by
            unfold bar at hb
            split at hb
            · cases hb; exact Nat.le_of_ble_eq_true rfl
            · split at hb
              · cases hb; exact Nat.le_of_ble_eq_true rfl
              · cases hb
          rw [hb] at hv0
          show X _ _ _ _ _ _ _ _ _ _ [(5, .int (nI r.1)), (4, .int (nI k)), (0, .ref a), (1, .int (nI m)), (2, .int (nI s)), (3, .int (bI b))] [.int (nI r.1)] _ _ _
          refine x_if_le (tgt := 55) dX2_want_41 (by decide) (fun h_ => absurd h_ (fun h => absurd (nLe (a := r.1) (b := 0) (by omega) (by decide) (by rw [nI_0]; exact h)) (by omega))) (fun _ => ?_)
          refine x_aload_n dX2_want_44 2 rfl rfl ?_
          refine x_iload dX2_want_45 0 rfl ?_
          refine x_aload_n dX2_want_47 2 rfl rfl ?_
          refine x_get dX2_want_48 vC_2 in_X2 hB.1 14 (by decide) q1890 rfl ?_
          refine x_top (x' := nI r.2) (hv0 r rfl) ?_
          refine x_callV dX2_want_51 (con_X2_refuses hB) (lw_V q1936 q1938 qs39 q101 q1939) (np := 2) (by decide +kernel) rfl (rcv_of vC_2 hB.1) ⟨Nat.le_of_ble_eq_true rfl, Nat.le_of_ble_eq_true rfl⟩ (Nat.le_of_ble_eq_true rfl) rfl (by decide) (by decide) (rI fun r5 σ4 h3 => ?_) nI'
          exact x_iret dX2_want_54 rfl (⟨_, rfl, by rw [hco, opWant_some hb]; exact h3.1, by rw [hco, opWant_some hb]; exact CP.ref (N := mS M 14 v0) hC rfl (fun j hj => by show (if j = 14 then _ else _) = _; rw [if_neg hj]) h3.2.1 (hFB.tr h3.2.2)⟩)
        | none =>
          show X _ _ _ _ _ _ _ _ _ _ [(5, .int (nI 0)), (4, .int (nI k)), (0, .ref a), (1, .int (nI m)), (2, .int (nI s)), (3, .int (bI b))] [.int (nI 0)] _ _ _
          refine x_if_le (tgt := 55) dX2_want_41 (by decide) (fun _ => ?_) (fun h_ => absurd (by decide) h_)
          refine x_aload_n dX2_want_55 2 rfl rfl ?_
          refine x_aload_n dX2_want_56 2 rfl rfl ?_
          refine x_get dX2_want_57 vC_2 in_X2 hB.1 0 (by decide) q1876 rfl ?_
          refine x_callV dX2_want_60 (con_X2_keeps hB (r := 0) (Or.inl rfl) hC.1 hI.1 (past := c.2.1) (hC.2.1.of rfl rfl) hI.2 (wi := wi) hW) (lw_V q1944 q1946 qs41 q101 q1947) (np := 1) (by decide +kernel) rfl (rcv_of vC_2 hB.1) ⟨Nat.le_of_ble_eq_true rfl, Nat.le_of_ble_eq_true rfl⟩ (Nat.le_of_ble_eq_true rfl) rfl (by decide) (by decide) (rV fun σ6 h9 => ?_) nV'
          obtain ⟨N, hN, hFN, hNi, hNj, hKN⟩ := h9
          have hG0 : GR (N.1 0) c.1 := by rw [hNi 0 (by decide)]; exact hC.1
          refine x_aload_n dX2_want_63 2 rfl rfl ?_
          refine x_iload_n dX2_want_64 3 rfl rfl ?_
          refine x_iload_n dX2_want_65 4 rfl rfl ?_
          refine x_iload dX2_want_66 1 rfl ?_
          refine x_callV dX2_want_68 (con_X2_wants hN hG0 hI.1 hQ htm hs hk12 hb) (lw_V q1981 q1983 qs47 q101 q1984) (np := 3) (by decide +kernel) rfl (rcv_of vC_2 hN.1) ⟨Nat.le_of_ble_eq_true rfl, Nat.le_of_ble_eq_true rfl⟩ (Nat.le_of_ble_eq_true rfl) rfl (by decide) (by decide) (rI fun z σ8 h3 => ?_) nI'
          exact x_iret dX2_want_71 rfl (⟨_, rfl, by rw [hco, opWant_none hb]; exact h3.1, by rw [hco, opWant_none hb]; exact CP.fin hC (hFB.tr hFN) hNi (fun j g1 g2 => (hNj j g1).trans (by show (if j = 14 then _ else _) = _; rw [if_neg g2])) hKN h3.2⟩)
      refine x_iload_n dX2_want_18 3 rfl rfl ?_
      refine x_if_eq (tgt := 26) dX2_want_19 (by decide) (fun c3 => ?_) (fun c3 => ?_)
      · have c3 := bI_0 c3
        refine x_iconst (v := nI 1) dX2_want_26 (by decide) ?_
        rw [c3] at hk
        subst hk
        rw [c3] at tail ⊢
        exact tail
      · have c3 := bI_1 c3
        refine x_iconst (v := nI 2) dX2_want_22 (by decide) ?_
        refine x_goto (tgt := 27) dX2_want_23 (by decide) ?_
        rw [c3] at hk
        subst hk
        rw [c3] at tail ⊢
        exact tail
    · have c2 : isS u = false := bI_0 c2
      have hco : coWant wi c v u b = (-11, c) := by unfold coWant; rw [c1, c2]; rfl
      refine x_bipush (v := (-11)) dX2_want_15 (by decide) ?_
      exact x_iret dX2_want_17 rfl (⟨_, rfl, by rw [hco], by rw [hco]; exact CP.rf hM hC⟩)
theorem m1_ne {n : Nat} (h : n < 2 ^ 31) : ¬ (-1 : Int32) = nI n := fun z => by
  have := nI_pos h
  rw [← z] at this
  exact absurd (by decide : (-1 : Int32) < 0) this
set_option maxHeartbeats 4000000 in
set_option maxRecDepth 100000 in
theorem con_X2_free {l : Launch} {G : YG} {σ : AH} {a : Nat} {ad : Nat → Nat} {M : MS} {c : CS} {wi : Bool} {v u : Int32} (hM : MAt σ a ad M) (hC : CR M c) (hI : IVs c) (hW : M.2 7 = bI wi) : Con l yX2_free cX2_free 3 (some FieldType.int) G 4 0 0 [.ref a, .int v, .int u] σ (PI fun z τ => z = (coFree wi c v u).1 ∧ CP a ad σ M (coFree wi c v u).2 τ) := by
  refine con_of (by decide) (Nat.le_of_ble_eq_true rfl) ?_
  refine x_locs (L' := [(0, .ref a), (1, .int v), (2, .int u)]) [0, 1, 2] rfl ?_
  refine x_aload_n dX2_free_0 0 rfl rfl ?_
  refine x_iload_n dX2_free_1 1 rfl rfl ?_
  refine x_callV dX2_free_2 (con_X2_isMaid hM hC.1 hI.1 (v := v)) (lw_V q1959 q1961 qs43 q101 q1962) (np := 1) (by decide +kernel) rfl (rcv_of vC_2 hM.1) ⟨Nat.le_of_ble_eq_true rfl, Nat.le_of_ble_eq_true rfl⟩ (Nat.le_of_ble_eq_true rfl) rfl (by decide) (by decide) (rS ?_) nI'
  refine x_if_eq (tgt := 15) dX2_free_5 (by decide) (fun c1 => ?_) (fun c1 => ?_)
  · have c1 := bI_0 c1
    have hco : coFree wi c v u = (-11, c) := by unfold coFree; rw [c1]; rfl
    refine x_bipush (v := (-11)) dX2_free_15 (by decide) ?_
    exact x_iret dX2_free_17 rfl (⟨_, rfl, by rw [hco], by rw [hco]; exact CP.rf hM hC⟩)
  · have c1 := bI_1 c1
    refine x_iload_n dX2_free_8 2 rfl rfl ?_
    refine x_callS dX2_free_9 (con_X2_isShelf (v := u)) (lw_S q1970 q1971 q101 q1972) (np := 1) (by decide +kernel) rfl ⟨Nat.le_of_ble_eq_true rfl, Nat.le_of_ble_eq_true rfl⟩ (Nat.le_of_ble_eq_true rfl) rfl (by decide) (by decide) (rS ?_) nI'
    refine x_if_ne (tgt := 18) dX2_free_12 (by decide) (fun c2 => ?_) (fun c2 => ?_)
    · have c2 : isS u = true := bI_1 c2
      obtain ⟨m, hm, rfl, hvn, htm⟩ := isT_of hI.1.c c1
      obtain ⟨s, hs, rfl, hun⟩ := isS_of c2
      have hC24 := hI.1.c
      have hm24 : m < 24 := by omega
      have h2 := hI.1.2.2.1 m s
      have hco : coFree wi c (nI m) (nI s) = doR wi c (opFree c.1 m s) := by unfold coFree; rw [c1, c2, hvn, hun]; rfl
      refine x_aload_n dX2_free_18 0 rfl rfl ?_
      refine x_iload_n dX2_free_19 1 rfl rfl ?_
      refine x_iload_n dX2_free_20 2 rfl rfl ?_
      refine x_callV dX2_free_21 (con_X2_lock hM (m := m) (s := s) hm24 hs) (lw_V q1977 q1979 qs46 q101 q1980) (np := 2) (by decide +kernel) rfl (rcv_of vC_2 hM.1) ⟨Nat.le_of_ble_eq_true rfl, Nat.le_of_ble_eq_true rfl⟩ (Nat.le_of_ble_eq_true rfl) rfl (by decide) (by decide) (rS ?_) nI'
      refine x_top (x' := nI (hw c.1 m s)) (hC.1.hwE hm24 hs) ?_
      refine x_if_ne (tgt := 34) dX2_free_24 (by decide) (fun c3 => ?_) (fun c3 => ?_)
      · have c3 := nN0 c3
        obtain ⟨T1, hT1⟩ : ∃ T1, T1 = (if aAt c.1 m = some s then noMore c.1 m else c.1) := ⟨_, rfl⟩
        have hop : opFree c.1 m s = .inr (serve (sHw T1 (fset (hw c.1) m (fset (hw c.1 m) s 0))) s) := by unfold opFree; rw [if_neg c3, ← hT1]
        have hIT : IV T1 := by
          rw [hT1]; split
          · exact hI.1.iNoMore
          · exact hI.1
        have hhT : hw T1 = hw c.1 := by
          rw [hT1]; split
          · unfold noMore; split <;> rfl
          · rfl
        have hwT : wishIn m (qu T1 s) = none := by
          rw [hT1]
          split
          · exact aAt_none.mp (noMore_self hI.1.uq) s hs
          · rename_i hn
            cases hq : wishIn m (qu c.1 s) with
            | none => rfl
            | some x => exact absurd (aAt_uq hI.1.uq hs hq) hn
        have hIF : IV (sHw T1 (fset (hw T1) m (fset (hw T1 m) s 0))) := hIT.hwm (fun z => by
            by_cases e : z = s
            · subst e; rw [fset_s]; omega
            · rw [fset_n e]; exact hIT.2.2.1 m z) (fun z h => by
            by_cases e : z = s
            · subst e; rw [fset_s] at h; exact absurd rfl h
            · rw [fset_n e] at h; exact hIT.2.2.2.1 m z h) (fun z hz h => by
            by_cases e : z = s
            · subst e; exact hwT
            · rw [fset_n e] at h; exact absurd rfl h)
        rw [← hhT] at hop
        refine x_aload_n dX2_free_34 0 rfl rfl ?_
        refine x_aload_n dX2_free_35 0 rfl rfl ?_
        refine x_get dX2_free_36 vC_2 in_X2 hM.1 0 (by decide) q1876 rfl ?_
        refine x_callV dX2_free_39 (con_X2_keeps hM (r := 0) (Or.inl rfl) hC.1 hI.1 (past := c.2.1) hC.2.1 hI.2 (wi := wi) hW) (lw_V q1944 q1946 qs41 q101 q1947) (np := 1) (by decide +kernel) rfl (rcv_of vC_2 hM.1) ⟨Nat.le_of_ble_eq_true rfl, Nat.le_of_ble_eq_true rfl⟩ (Nat.le_of_ble_eq_true rfl) rfl (by decide) (by decide) (rV fun σ4 h9 => ?_) nV'
        obtain ⟨N, hN, hFN, hNi, hNj, hKN⟩ := h9
        have hG0 : GR (N.1 0) c.1 := by rw [hNi 0 (by decide)]; exact hC.1
        refine x_aload_n dX2_free_42 0 rfl rfl ?_
        refine x_iload_n dX2_free_43 1 rfl rfl ?_
        refine x_iconst (v := nI 1) dX2_free_44 (by decide) ?_
        have tail : ∀ (υ : AH) (N1 : MS), MAt υ a ad N1 → MF a ad σ4 υ → M0 N N1 → GR (N1.1 0) T1 → X l yX2_free cX2_free 3 (some FieldType.int) [] G (yroom 4 0 0) (yEnd G (yroom 4 0 0) (PI fun z τ => z = (coFree wi c (nI m) (nI s)).1 ∧ CP a ad σ M (coFree wi c (nI m) (nI s)).2 τ)) 57 [(0, .ref a), (1, .int (nI m)), (2, .int (nI s))] [] υ 0 0 := by
          intro υ N1 hN1 hF1 h01 hG1
          refine x_aload_n dX2_free_57 0 rfl rfl ?_
          refine x_iload_n dX2_free_58 1 rfl rfl ?_
          refine x_iload_n dX2_free_59 2 rfl rfl ?_
          refine x_iconst (v := nI 0) dX2_free_60 (by decide) ?_
          refine x_callV dX2_free_61 (con_X2_locks hN1 (m := m) (s := s) (v := nI 0) hm24 hs) (lw_V q2001 q2003 qs52 q101 q2004) (np := 3) (by decide +kernel) rfl (rcv_of vC_2 hN1.1) ⟨Nat.le_of_ble_eq_true rfl, Nat.le_of_ble_eq_true rfl⟩ (Nat.le_of_ble_eq_true rfl) rfl (by decide) (by decide) (rV fun σ6 h5 => ?_) nV'
          have hG2 : GR (upd (N1.1 0) (149 + 8 * m + s) (nI 0)) _ := GR.sHw (k := 0) hG1 hIT.c (fun s hs => hIT.len hs) hm24 hs
          refine x_aload_n dX2_free_64 0 rfl rfl ?_
          refine x_iload_n dX2_free_65 2 rfl rfl ?_
          refine x_callV dX2_free_66 (con_X2_gives h5.1 hG2 hIF hs) (lw_V q2041 q2043 qs62 q101 q2044) (np := 1) (by decide +kernel) rfl (rcv_of vC_2 h5.1.1) ⟨Nat.le_of_ble_eq_true rfl, Nat.le_of_ble_eq_true rfl⟩ (Nat.le_of_ble_eq_true rfl) rfl (by decide) (by decide) (rI fun r9 σ8 h6 => ?_) nI'
          exact x_iret dX2_free_69 rfl (⟨_, rfl, by rw [hco, hop]; exact h6.1, by rw [hco, hop]; exact CP.fin hC hFN hNi (fun j a _ => hNj j a) hKN (GP.tr (hF1.tr h5.2) (h01.tr M0.g1) h6.2)⟩)
        refine x_callV dX2_free_45 (con_X2_of hN (m := m) (w := 1) hm24 (by decide)) (lw_V q1966 q1968 qs44 q101 q1969) (np := 2) (by decide +kernel) rfl (rcv_of vC_2 hN.1) ⟨Nat.le_of_ble_eq_true rfl, Nat.le_of_ble_eq_true rfl⟩ (Nat.le_of_ble_eq_true rfl) rfl (by decide) (by decide) (rS ?_) nI'
        refine x_top (x' := atI c.1 m) ((hG0.2.2.1 m hm).1) ?_
        refine x_iload_n dX2_free_48 2 rfl rfl ?_
        refine x_icmp_ne (tgt := 57) dX2_free_49 (by decide) (fun c4 => ?_) (fun c4 => ?_)
        · have hne : ¬ aAt c.1 m = some s := fun z => c4 (atI_some z)
          rw [if_neg hne] at hT1
          refine x_locs (L' := [(0, .ref a), (1, .int (nI m)), (2, .int (nI s))]) [0, 1, 2] rfl ?_
          exact tail _ N hN MF.rf M0.rf (by rw [hT1]; exact hG0)
        · have ha : aAt c.1 m = some s := by
            cases h : aAt c.1 m with
            | none => rw [atI_none h] at c4; exact absurd c4 (m1_ne (by omega))
            | some z => have hz := (aAt_some h).1; rw [atI_some h] at c4; rw [nEq (by omega) (by omega) c4]
          rw [if_pos ha] at hT1
          refine x_aload_n dX2_free_52 0 rfl rfl ?_
          refine x_iload_n dX2_free_53 1 rfl rfl ?_
          refine x_callV dX2_free_54 (con_X2_leaves hN hG0 hI.1 hm ha) (lw_V q2037 q2039 qs61 q101 q2040) (np := 1) (by decide +kernel) rfl (rcv_of vC_2 hN.1) ⟨Nat.le_of_ble_eq_true rfl, Nat.le_of_ble_eq_true rfl⟩ (Nat.le_of_ble_eq_true rfl) rfl (by decide) (by decide) (rV fun σ11 h4 => ?_) nV'
          obtain ⟨N1, hN1, hF1, h01, hG1⟩ := h4
          refine x_locs (L' := [(0, .ref a), (1, .int (nI m)), (2, .int (nI s))]) [0, 1, 2] rfl ?_
          exact tail _ N1 hN1 hF1 h01 (by rw [hT1]; exact hG1)
      · have c3 := n0 (by omega) c3
        have hop : opFree c.1 m s = .inl (4, s) := by unfold opFree; rw [if_pos c3]
        refine x_aload_n dX2_free_27 0 rfl rfl ?_
        refine x_iconst (v := nI 4) dX2_free_28 (by decide) ?_
        refine x_iload_n dX2_free_29 2 rfl rfl ?_
        refine x_callV dX2_free_30 (con_X2_refuses hM) (lw_V q1936 q1938 qs39 q101 q1939) (np := 2) (by decide +kernel) rfl (rcv_of vC_2 hM.1) ⟨Nat.le_of_ble_eq_true rfl, Nat.le_of_ble_eq_true rfl⟩ (Nat.le_of_ble_eq_true rfl) rfl (by decide) (by decide) (rI fun r14 σ13 h1 => ?_) nI'
        exact x_iret dX2_free_33 rfl (⟨_, rfl, by rw [hco, hop]; exact h1.1, by rw [hco, hop]; exact CP.ref hC rfl (fun _ _ => rfl) h1.2.1 h1.2.2⟩)
    · have c2 : isS u = false := bI_0 c2
      have hco : coFree wi c v u = (-11, c) := by unfold coFree; rw [c1, c2]; rfl
      refine x_bipush (v := (-11)) dX2_free_15 (by decide) ?_
      exact x_iret dX2_free_17 rfl (⟨_, rfl, by rw [hco], by rw [hco]; exact CP.rf hM hC⟩)
set_option maxHeartbeats 4000000 in
set_option maxRecDepth 100000 in
theorem con_X2_end {l : Launch} {G : YG} {σ : AH} {a : Nat} {ad : Nat → Nat} {M : MS} {c : CS} {wi : Bool} {v : Int32} (hM : MAt σ a ad M) (hC : CR M c) (hI : IVs c) (hW : M.2 7 = bI wi) : Con l yX2_end cX2_end 3 (some FieldType.int) G 4 0 0 [.ref a, .int v] σ (PI fun z τ => z = (coEnd wi c v).1 ∧ CP a ad σ M (coEnd wi c v).2 τ) := by
  refine con_of (by decide) (Nat.le_of_ble_eq_true rfl) ?_
  refine x_locs (L' := [(0, .ref a), (1, .int v)]) [0, 1] rfl ?_
  refine x_aload_n dX2_end_0 0 rfl rfl ?_
  refine x_iload_n dX2_end_1 1 rfl rfl ?_
  refine x_callV dX2_end_2 (con_X2_isMaid hM hC.1 hI.1 (v := v)) (lw_V q1959 q1961 qs43 q101 q1962) (np := 1) (by decide +kernel) rfl (rcv_of vC_2 hM.1) ⟨Nat.le_of_ble_eq_true rfl, Nat.le_of_ble_eq_true rfl⟩ (Nat.le_of_ble_eq_true rfl) rfl (by decide) (by decide) (rS ?_) nI'
  refine x_if_ne (tgt := 11) dX2_end_5 (by decide) (fun c1 => ?_) (fun c1 => ?_)
  · have c1 := bI_1 c1
    obtain ⟨m, hm, rfl, hvn, htm⟩ := isT_of hI.1.c c1
    have hC24 := hI.1.c
    have hm24 : m < 24 := by omega
    have hco : coEnd wi c (nI m) = doR wi c (.inr (opEnd c.1 m)) := by unfold coEnd; rw [c1, hvn]; rfl
    have hIL := hI.1.iLetAll (m := m)
    have hKL := KP.let hI.1 (m := m)
    refine x_aload_n dX2_end_11 0 rfl rfl ?_
    refine x_aload_n dX2_end_12 0 rfl rfl ?_
    refine x_get dX2_end_13 vC_2 in_X2 hM.1 0 (by decide) q1876 rfl ?_
    refine x_callV dX2_end_16 (con_X2_keeps hM (r := 0) (Or.inl rfl) hC.1 hI.1 (past := c.2.1) hC.2.1 hI.2 (wi := wi) hW) (lw_V q1944 q1946 qs41 q101 q1947) (np := 1) (by decide +kernel) rfl (rcv_of vC_2 hM.1) ⟨Nat.le_of_ble_eq_true rfl, Nat.le_of_ble_eq_true rfl⟩ (Nat.le_of_ble_eq_true rfl) rfl (by decide) (by decide) (rV fun σ2 h9 => ?_) nV'
    obtain ⟨N, hN, hFN, hNi, hNj, hKN⟩ := h9
    have hG0 : GR (N.1 0) c.1 := by rw [hNi 0 (by decide)]; exact hC.1
    refine x_aload_n dX2_end_19 0 rfl rfl ?_
    refine x_iload_n dX2_end_20 1 rfl rfl ?_
    refine x_callV dX2_end_21 (con_X2_letsAll hN hG0 hI.1 hm) (lw_V q2033 q2035 qs60 q101 q2036) (np := 1) (by decide +kernel) rfl (rcv_of vC_2 hN.1) ⟨Nat.le_of_ble_eq_true rfl, Nat.le_of_ble_eq_true rfl⟩ (Nat.le_of_ble_eq_true rfl) rfl (by decide) (by decide) (rI fun z σ4 h4 => ?_) nI'
    obtain ⟨rfl, N1, hN1, hF1, h01, hG1⟩ := h4
    refine x_istore_n (i := 2) (L' := [(2, .int (nI (letAll c.1 m).2)), (0, .ref a), (1, .int (nI m))]) dX2_end_24 rfl (by decide) rfl ?_
    refine x_aload_n dX2_end_25 1 rfl rfl ?_
    refine x_iload_n dX2_end_26 2 rfl rfl ?_
    refine x_iconst (v := nI 0) dX2_end_27 (by decide) ?_
    refine x_iconst (v := nI 0) dX2_end_28 (by decide) ?_
    refine x_callV dX2_end_29 (con_X2_lays hN1 (m := m) (w := 0) (v := nI 0) hm24 (by decide)) (lw_V q1951 q1953 qs42 q101 q1954) (np := 3) (by decide +kernel) rfl (rcv_of vC_2 hN1.1) ⟨Nat.le_of_ble_eq_true rfl, Nat.le_of_ble_eq_true rfl⟩ (Nat.le_of_ble_eq_true rfl) rfl (by decide) (by decide) (rV fun σ5 h5 => ?_) nV'
    have hG2 : GR (upd (N1.1 0) (5 + 6 * m + 0) (nI 0)) _ := GR.sTH (b := false) hG1 hIL.c (fun s hs => hIL.len hs) hm24
    refine x_aload_n dX2_end_32 1 rfl rfl ?_
    refine x_get dX2_end_33 vC_2 in_X2 h5.1.1 0 (by decide) q1876 rfl ?_
    refine x_iconst (v := nI 1) dX2_end_36 (by decide) ?_
    refine x_dup2_11 dX2_end_37 rfl rfl ?_
    refine x_iald (N := 429) (j := 1) (v := nI (nE c.1)) dX2_end_38 (h5.1.2.1 0 rfl) (rfl) (by decide) (by decide) (hG2.1.2.1.trans (by show nI (nE (letAll c.1 m).1) = _; rw [hKL.2.1])) ?_
    refine x_iconst (v := nI 1) dX2_end_39 (by decide) ?_
    refine x_iadd dX2_end_40 ?_
    refine x_top (x' := nI (nE c.1 + 1)) (nI_add _ _) ?_
    refine x_iast (N := 429) (j := 1) (w := nI (nE c.1 + 1)) dX2_end_41 (h5.1.2.1 0 rfl) rfl (by decide) (by decide) (fun σ8 g8 f8 => ?_)
    obtain ⟨hA8, hF8⟩ := h5.1.arr (k := 0) rfl g8 f8
    refine x_iload_n dX2_end_42 0 rfl rfl ?_
    have hG3 : GR (upd (upd (N1.1 0) (5 + 6 * m + 0) (nI 0)) 1 (nI (nE c.1 + 1))) (opEnd c.1 m).1 := by
      have := GR.sNE hG2 hIL.c (fun s hs => hIL.len hs)
      unfold opEnd
      rw [← hKL.2.2.1, ← hKL.2.1]
      exact this
    exact x_iret dX2_end_43 rfl (⟨_, rfl, by rw [hco]; rfl, by rw [hco]; exact CP.fin hC hFN hNi (fun j a _ => hNj j a) hKN ⟨_, hA8, (hF1.tr h5.2).tr hF8, (h01.tr M0.g1).tr M0.gA, hG3⟩⟩)
  · have c1 := bI_0 c1
    have hco : coEnd wi c v = (-11, c) := by unfold coEnd; rw [c1]; rfl
    refine x_bipush (v := (-11)) dX2_end_8 (by decide) ?_
    exact x_iret dX2_end_10 rfl (⟨_, rfl, by rw [hco], by rw [hco]; exact CP.rf hM hC⟩)
