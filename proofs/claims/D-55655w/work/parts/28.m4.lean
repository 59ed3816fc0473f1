set_option maxRecDepth 100000
theorem take_succ_getElem? {α : Type} {zl : List α} {k : Nat} {w : α} (h : zl[k]? = some w) : zl.take (k + 1) = zl.take k ++ [w] := by
  rw [List.take_add_one, h]; rfl
theorem rmW_take_eq {zl : List Wi} {k m : Nat} {w : Wi} (h : zl[k]? = some w) (e : w.1 = m) : rmW m (zl.take (k + 1)) = rmW m (zl.take k) := by
  rw [take_succ_getElem? h]; unfold rmW; simp [List.filter_append, e]
theorem rmW_take_ne {zl : List Wi} {k m : Nat} {w : Wi} (h : zl[k]? = some w) (e : w.1 ≠ m) : rmW m (zl.take (k + 1)) = rmW m (zl.take k) ++ [w] := by
  rw [take_succ_getElem? h]; unfold rmW; simp [List.filter_append, e]
theorem rmW_le {zl : List Wi} {m : Nat} : (rmW m zl).length ≤ zl.length := List.length_filter_le _ _
theorem atI_some {S : AS} {m s : Nat} (h : aAt S m = some s) : atI S m = nI s := by unfold atI; rw [h]
theorem atI_none {S : AS} {m : Nat} (h : aAt S m = none) : atI S m = -1 := by unfold atI; rw [h]
set_option maxHeartbeats 4000000 in
set_option maxRecDepth 100000 in
theorem con_X2_leaves {l : Launch} {G : YG} {σ : AH} {a : Nat} {ad : Nat → Nat} {M : MS} {S : AS} {m s : Nat} (hM : MAt σ a ad M) (hG : GR (M.1 0) S) (hI : IV S) (hm : m < nC S) (ha : aAt S m = some s) : Con l yX2_leaves cX2_leaves 7 none G 1 0 0 [.ref a, .int (nI m)] σ (PV fun τ => GP a ad σ M (noMore S m) τ) := by
  refine con_of (by decide) (Nat.le_of_ble_eq_true rfl) ?_
  refine x_locs (L' := [(0, .ref a), (1, .int (nI m))]) [0, 1] rfl ?_
  have hs : s < 8 := (aAt_some ha).1
  have hC := hI.c
  have hL : ∀ s, s < 8 → (qu S s).length ≤ 8 := fun s hs => hI.len hs
  have hm24 : m < 24 := by omega
  obtain ⟨w0, hw0⟩ := (aAt_some ha).2
  have hin : inRow m (qu S s) = true := by rw [inRow_wish, hw0]; rfl
  have hlen := rmW_len (hI.nd hs) hin
  have hl8 := hL s hs
  generalize hl : qu S s = zl at hlen hl8
  have hrow : ∀ i w, zl[i]? = some w → M.1 0 (341 + 11 * s + (3 + i)) = nI w.1 := fun i w h => hG.2.2.2.2.2 s i w hs (by rw [hl]; exact h)
  refine x_aload_n dX2_leaves_0 0 rfl rfl ?_
  refine x_iload_n dX2_leaves_1 1 rfl rfl ?_
  refine x_iconst (v := nI 1) dX2_leaves_2 (by decide) ?_
  refine x_callV dX2_leaves_3 (con_X2_of hM (m := m) (w := 1) hm24 (by decide)) (lw_V q1966 q1968 qs44 q101 q1969) (np := 2) (by decide +kernel) rfl (rcv_of vC_2 hM.1) ⟨Nat.le_of_ble_eq_true rfl, Nat.le_of_ble_eq_true rfl⟩ (Nat.le_of_ble_eq_true rfl) rfl (by decide) (by decide) (rS ?_) nI'
  refine x_top (x' := nI s) ((hG.2.2.1 m hm).1.trans (atI_some ha)) ?_
  refine x_istore_n (i := 2) (L' := [(2, .int (nI s)), (0, .ref a), (1, .int (nI m))]) dX2_leaves_6 rfl (by decide) rfl ?_
  refine x_iconst (v := nI 0) dX2_leaves_7 (by decide) ?_
  refine x_istore_n (i := 3) (L' := [(3, .int (nI 0)), (2, .int (nI s)), (0, .ref a), (1, .int (nI m))]) dX2_leaves_8 rfl (by decide) rfl ?_
  refine x_aload_n dX2_leaves_9 2 rfl rfl ?_
  refine x_iload_n dX2_leaves_10 1 rfl rfl ?_
  refine x_iconst (v := nI 2) dX2_leaves_11 (by decide) ?_
  refine x_callV dX2_leaves_12 (con_X2_shelf hM (s := s) (w := 2) hs (by decide)) (lw_V q1989 q1991 qs49 q101 q1992) (np := 2) (by decide +kernel) rfl (rcv_of vC_2 hM.1) ⟨Nat.le_of_ble_eq_true rfl, Nat.le_of_ble_eq_true rfl⟩ (Nat.le_of_ble_eq_true rfl) rfl (by decide) (by decide) (rS ?_) nI'
  refine x_top (x' := nI zl.length) (by rw [← hl]; exact (hG.2.2.2.2.1 s hs).2.2) ?_
  refine x_istore (i := 4) (L' := [(4, .int (nI zl.length)), (3, .int (nI 0)), (2, .int (nI s)), (0, .ref a), (1, .int (nI m))]) dX2_leaves_15 (by decide) rfl ?_
  refine x_iconst (v := nI 0) dX2_leaves_17 (by decide) ?_
  refine x_istore (i := 5) (L' := [(5, .int (nI 0)), (4, .int (nI zl.length)), (3, .int (nI 0)), (2, .int (nI s)), (0, .ref a), (1, .int (nI m))]) dX2_leaves_18 (by decide) rfl ?_
  refine x_locs (L' := [(0, .ref a), (1, .int (nI m)), (2, .int (nI s)), (3, .int (nI 0)), (4, .int (nI zl.length)), (5, .int (nI 0))]) [4, 5, 3, 2, 1, 0] rfl ?_
  suffices loop : ∀ (d k n : Nat) (τ : AH) (N : MS), k + d = zl.length → n = (rmW m (zl.take k)).length → n ≤ k → MAt τ a ad N → MF a ad σ τ → M0 M N → (∀ j, (j < 341 + 11 * s + 3 ∨ 341 + 11 * s + 3 + n ≤ j) → N.1 0 j = M.1 0 j) → (∀ i w, (rmW m (zl.take k))[i]? = some w → N.1 0 (341 + 11 * s + (3 + i)) = nI w.1) → X l yX2_leaves cX2_leaves 7 none [] G (yroom 1 0 0) (yEnd G (yroom 1 0 0) (PV fun τ => GP a ad σ M (noMore S m) τ)) 20 [(0, .ref a), (1, .int (nI m)), (2, .int (nI s)), (3, .int (nI n)), (4, .int (nI zl.length)), (5, .int (nI k))] [] τ 0 0 from loop zl.length 0 0 σ M (by omega) (by simp [rmW]) (by omega) hM MF.rf M0.rf (fun _ _ => rfl) (fun i w h => by simp [rmW] at h)
  intro d
  induction d with
  | zero =>
    intro k n τ N hk hn hnk hN hFN h0N hg hr
    have hkl : k = zl.length := by omega
    subst hkl
    rw [List.take_length] at hn hr
    refine x_iload dX2_leaves_20 5 rfl ?_
    refine x_iload dX2_leaves_22 4 rfl ?_
    refine x_icmp_ge (tgt := 66) dX2_leaves_24 (by decide) (fun _ => ?_) (fun h_ => absurd ((nI_leI (by omega) (by omega)).mpr (by omega)) h_)
    have hn7 : n ≤ 7 := by omega
    refine x_aload_n dX2_leaves_66 0 rfl rfl ?_
    refine x_iload_n dX2_leaves_67 2 rfl rfl ?_
    refine x_iconst (v := nI 3) dX2_leaves_68 (by decide) ?_
    refine x_iload_n dX2_leaves_69 3 rfl rfl ?_
    refine x_iadd dX2_leaves_70 ?_
    refine x_top (x' := nI (3 + n)) (nI_add _ _) ?_
    refine x_iconst (v := nI 0) dX2_leaves_71 (by decide) ?_
    refine x_callV dX2_leaves_72 (con_X2_shelves hN (s := s) (w := 3 + n) (v := nI 0) hs (by omega)) (lw_V q2005 q2007 qs53 q101 q2008) (np := 3) (by decide +kernel) rfl (rcv_of vC_2 hN.1) ⟨Nat.le_of_ble_eq_true rfl, Nat.le_of_ble_eq_true rfl⟩ (Nat.le_of_ble_eq_true rfl) rfl (by decide) (by decide) (rV fun σ3 g1 => ?_) nV'
    refine x_aload_n dX2_leaves_75 0 rfl rfl ?_
    refine x_iload_n dX2_leaves_76 2 rfl rfl ?_
    refine x_iconst (v := nI 2) dX2_leaves_77 (by decide) ?_
    refine x_iload_n dX2_leaves_78 3 rfl rfl ?_
    refine x_callV dX2_leaves_79 (con_X2_shelves g1.1 (s := s) (w := 2) (v := nI n) hs (by decide)) (lw_V q2005 q2007 qs53 q101 q2008) (np := 3) (by decide +kernel) rfl (rcv_of vC_2 g1.1.1) ⟨Nat.le_of_ble_eq_true rfl, Nat.le_of_ble_eq_true rfl⟩ (Nat.le_of_ble_eq_true rfl) rfl (by decide) (by decide) (rV fun σ5 g2 => ?_) nV'
    refine x_aload_n dX2_leaves_82 0 rfl rfl ?_
    refine x_iload_n dX2_leaves_83 1 rfl rfl ?_
    refine x_iconst (v := nI 1) dX2_leaves_84 (by decide) ?_
    refine x_iconst (v := (-1)) dX2_leaves_85 (by decide) ?_
    refine x_callV dX2_leaves_86 (con_X2_lays g2.1 (m := m) (w := 1) (v := -1) hm24 (by decide)) (lw_V q1951 q1953 qs42 q101 q1954) (np := 3) (by decide +kernel) rfl (rcv_of vC_2 g2.1.1) ⟨Nat.le_of_ble_eq_true rfl, Nat.le_of_ble_eq_true rfl⟩ (Nat.le_of_ble_eq_true rfl) rfl (by decide) (by decide) (rV fun σ7 g3 => ?_) nV'
    refine x_aload_n dX2_leaves_89 0 rfl rfl ?_
    refine x_iload_n dX2_leaves_90 1 rfl rfl ?_
    refine x_iconst (v := nI 2) dX2_leaves_91 (by decide) ?_
    refine x_iconst (v := nI 0) dX2_leaves_92 (by decide) ?_
    refine x_callV dX2_leaves_93 (con_X2_lays g3.1 (m := m) (w := 2) (v := nI 0) hm24 (by decide)) (lw_V q1951 q1953 qs42 q101 q1954) (np := 3) (by decide +kernel) rfl (rcv_of vC_2 g3.1.1) ⟨Nat.le_of_ble_eq_true rfl, Nat.le_of_ble_eq_true rfl⟩ (Nat.le_of_ble_eq_true rfl) rfl (by decide) (by decide) (rV fun σ9 g4 => ?_) nV'
    have hend : GR ((mG1 (mG1 (mG1 (mG1 N (341 + 11 * s + (3 + n)) (nI 0)) (341 + 11 * s + 2) (nI n)) (5 + 6 * m + 1) (-1)) (5 + 6 * m + 2) (nI 0)).1 0) (noMore S m) := by
      show GR (upd (upd (upd (upd (N.1 0) (341 + 11 * s + (3 + n)) (nI 0)) (341 + 11 * s + 2) (nI n)) (5 + 6 * m + 1) (-1)) (5 + 6 * m + 2) (nI 0)) (noMore S m)
      have hnm := noMore_at ha
      rw [hl] at hnm
      have hself := noMore_self hI.uq (m := m)
      have hkd := noMore_kind hI.uq (m := m)
      rw [hnm] at hself hkd ⊢
      refine GR.row hG hC hL hm24 hm hs (by omega) ?_ ?_ ?_ ?_ ?_
      · intro j hj h1 h2
        rw [pk_un h2, pk_un h1, pk_un (by omega), pk_un (by omega)]
        exact hg j (by omega)
      · rw [pk_un (by omega), pk_un (by omega), pk_us, hn]
      · intro i w hi
        have hil := (List.getElem?_eq_some_iff.mp hi).1
        rw [pk_un (by omega), pk_un (by omega), pk_un (by omega), pk_un (by omega)]
        exact hr i w hi
      · intro _
        rw [pk_un (by omega), pk_us, pk_us, atI_none hself, hkd]
        exact ⟨rfl, rfl⟩
      · intro m' hne s' _
        have := noMore_wish (S := S) (s := s') hne
        rw [noMore_at ha, hl] at this
        exact this
    exact x_vret dX2_leaves_96 rfl (⟨rfl, _, g4.1, (((hFN.tr g1.2).tr g2.2).tr g3.2).tr g4.2, (((h0N.tr M0.g1).tr M0.g1).tr M0.g1).tr M0.g1, hend⟩)
  | succ d ih =>
    intro k n τ N hk hn hnk hN hFN h0N hg hr
    obtain ⟨w, hw⟩ : ∃ w, zl[k]? = some w := ⟨_, List.getElem?_eq_getElem (by omega)⟩
    have hwm : w ∈ qu S s := by rw [hl]; exact List.mem_of_getElem? hw
    have hw24 : w.1 < 24 := Nat.lt_of_lt_of_le (hI.th (hI.w hs hwm).1) hC
    refine x_iload dX2_leaves_20 5 rfl ?_
    refine x_iload dX2_leaves_22 4 rfl ?_
    refine x_icmp_ge (tgt := 66) dX2_leaves_24 (by decide) (fun h_ => absurd h_ (fun h => absurd (nLe (by omega) (by omega) h) (by omega))) (fun _ => ?_)
    refine x_aload_n dX2_leaves_27 0 rfl rfl ?_
    refine x_iload_n dX2_leaves_28 2 rfl rfl ?_
    refine x_iconst (v := nI 3) dX2_leaves_29 (by decide) ?_
    refine x_iload dX2_leaves_30 5 rfl ?_
    refine x_iadd dX2_leaves_32 ?_
    refine x_top (x' := nI (3 + k)) (nI_add _ _) ?_
    refine x_callV dX2_leaves_33 (con_X2_shelf hN (s := s) (w := 3 + k) hs (by omega)) (lw_V q1989 q1991 qs49 q101 q1992) (np := 2) (by decide +kernel) rfl (rcv_of vC_2 hN.1) ⟨Nat.le_of_ble_eq_true rfl, Nat.le_of_ble_eq_true rfl⟩ (Nat.le_of_ble_eq_true rfl) rfl (by decide) (by decide) (rS ?_) nI'
    refine x_top (x' := nI w.1) ((hg _ (by omega)).trans (hrow k w hw)) ?_
    refine x_istore (i := 6) (L' := [(6, .int (nI w.1)), (0, .ref a), (1, .int (nI m)), (2, .int (nI s)), (3, .int (nI n)), (4, .int (nI zl.length)), (5, .int (nI k))]) dX2_leaves_36 (by decide) rfl ?_
    refine x_iload dX2_leaves_38 0 rfl ?_
    refine x_iload_n dX2_leaves_40 2 rfl rfl ?_
    refine x_icmp_ne (tgt := 47) dX2_leaves_41 (by decide) (fun c1 => ?_) (fun c1 => ?_)
    · have c1 := nNe (by omega) (by omega) c1
      refine x_aload_n dX2_leaves_47 1 rfl rfl ?_
      refine x_iload_n dX2_leaves_48 3 rfl rfl ?_
      refine x_iconst (v := nI 3) dX2_leaves_49 (by decide) ?_
      refine x_iload_n dX2_leaves_50 4 rfl rfl ?_
      refine x_iadd dX2_leaves_51 ?_
      refine x_top (x' := nI (3 + n)) (nI_add _ _) ?_
      refine x_iload dX2_leaves_52 0 rfl ?_
      refine x_callV dX2_leaves_54 (con_X2_shelves hN (s := s) (w := 3 + n) (v := nI w.1) hs (by omega)) (lw_V q2005 q2007 qs53 q101 q2008) (np := 3) (by decide +kernel) rfl (rcv_of vC_2 hN.1) ⟨Nat.le_of_ble_eq_true rfl, Nat.le_of_ble_eq_true rfl⟩ (Nat.le_of_ble_eq_true rfl) rfl (by decide) (by decide) (rV fun σ12 g1 => ?_) nV'
      refine x_iinc (i := 3) (q := 4) (v := nI (n + 1)) (L' := [(3, .int (nI (n + 1))), (6, .int (nI w.1)), (0, .ref a), (1, .int (nI m)), (2, .int (nI s)), (4, .int (nI zl.length)), (5, .int (nI k))]) dX2_leaves_57 rfl (nI_1 _) (by decide) rfl ?_
      refine x_iinc (i := 5) (q := 6) (v := nI (k + 1)) (L' := [(5, .int (nI (k + 1))), (3, .int (nI (n + 1))), (6, .int (nI w.1)), (0, .ref a), (1, .int (nI m)), (2, .int (nI s)), (4, .int (nI zl.length))]) dX2_leaves_60 rfl (nI_1 _) (by decide) rfl ?_
      refine x_goto (tgt := 20) dX2_leaves_63 (by decide) ?_
      refine x_locs (L' := [(0, .ref a), (1, .int (nI m)), (2, .int (nI s)), (3, .int (nI (n + 1))), (4, .int (nI zl.length)), (5, .int (nI (k + 1)))]) [3, 4, 5, 1, 6, 0] rfl ?_
      refine ih (k + 1) (n + 1) _ _ (by omega) (by rw [rmW_take_ne hw c1, List.length_append, ← hn]; rfl) (by omega) g1.1 (hFN.tr g1.2) (h0N.tr M0.g1) (fun j hj => ?_) (fun i x hi => ?_)
      · show upd (N.1 0) _ _ j = _
        rw [pk_un (by omega)]; exact hg j (by omega)
      · show upd (N.1 0) _ _ _ = _
        rw [rmW_take_ne hw c1] at hi
        by_cases e : i = n
        · subst e
          rw [pk_us]
          rw [List.getElem?_append_right (by omega), hn, Nat.sub_self] at hi
          cases hi; rfl
        · have hil := (List.getElem?_eq_some_iff.mp hi).1
          rw [List.length_append, ← hn] at hil
          have hil : i < n + 1 := hil
          rw [pk_un (by omega)]
          rw [List.getElem?_append_left (by omega)] at hi
          exact hr i x hi
    · have c1 := nEq (by omega) (by omega) c1
      refine x_goto (tgt := 60) dX2_leaves_44 (by decide) ?_
      refine x_iinc (i := 5) (q := 6) (v := nI (k + 1)) (L' := [(5, .int (nI (k + 1))), (6, .int (nI w.1)), (0, .ref a), (1, .int (nI m)), (2, .int (nI s)), (3, .int (nI n)), (4, .int (nI zl.length))]) dX2_leaves_60 rfl (nI_1 _) (by decide) rfl ?_
      refine x_goto (tgt := 20) dX2_leaves_63 (by decide) ?_
      refine x_locs (L' := [(0, .ref a), (1, .int (nI m)), (2, .int (nI s)), (3, .int (nI n)), (4, .int (nI zl.length)), (5, .int (nI (k + 1)))]) [2, 3, 4, 5, 6, 0] rfl ?_
      exact ih (k + 1) n τ N (by omega) (by rw [rmW_take_eq hw c1]; exact hn) (by omega) hN hFN h0N hg (fun i x hi => hr i x (by rw [rmW_take_eq hw c1] at hi; exact hi))
