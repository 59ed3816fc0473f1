set_option maxRecDepth 100000
set_option maxHeartbeats 4000000 in
set_option maxRecDepth 100000 in
theorem con_X2_locksOf {l : Launch} {G : YG} {σ : AH} {a : Nat} {ad : Nat → Nat} {M : MS} {S : AS} {m : Nat} (hM : MAt σ a ad M) (hG : GR (M.1 0) S) (hI : IV S) (hm : m < 24) : Con l yX2_locksOf cX2_locksOf 4 (some FieldType.int) G 1 0 0 [.ref a, .int (nI m)] σ (PS σ (nI (cn (lockF S m) 8))) := by
  refine con_of (by decide) (Nat.le_of_ble_eq_true rfl) ?_
  refine x_locs (L' := [(0, .ref a), (1, .int (nI m))]) [0, 1] rfl ?_
  refine x_iconst (v := nI 0) dX2_locksOf_0 (by decide) ?_
  refine x_istore_n (i := 2) (L' := [(2, .int (nI 0)), (0, .ref a), (1, .int (nI m))]) dX2_locksOf_1 rfl (by decide) rfl ?_
  refine x_iconst (v := nI 0) dX2_locksOf_2 (by decide) ?_
  refine x_istore_n (i := 3) (L' := [(3, .int (nI 0)), (2, .int (nI 0)), (0, .ref a), (1, .int (nI m))]) dX2_locksOf_3 rfl (by decide) rfl ?_
  refine x_locs (L' := [(0, .ref a), (1, .int (nI m)), (2, .int (nI 0)), (3, .int (nI 0))]) [2, 3, 1, 0] rfl ?_
  suffices loop : ∀ (d i : Nat), i + d = 8 → X l yX2_locksOf cX2_locksOf 4 (some FieldType.int) [] G (yroom 1 0 0) (yEnd G (yroom 1 0 0) (PS σ (nI (cn (lockF S m) 8)))) 4 [(0, .ref a), (1, .int (nI m)), (2, .int (nI (cn (lockF S m) i))), (3, .int (nI i))] [] σ 0 0 from loop (8) 0 (Nat.zero_add _)
  intro d
  induction d with
  | zero =>
    intro i hi
    have hin : i = 8 := by omega
    subst hin
    refine x_iload_n dX2_locksOf_4 3 rfl rfl ?_
    refine x_bipush (v := nI 8) dX2_locksOf_5 (by decide) ?_
    refine x_icmp_ge (tgt := 33) dX2_locksOf_7 (by decide) (fun _ => ?_) (fun h_ => absurd (by decide) h_)
    refine x_iload_n dX2_locksOf_33 2 rfl rfl ?_
    exact x_iret dX2_locksOf_34 rfl (pS' (by rfl))
  | succ d ih =>
    intro i hi
    have h2 := hI.2.2.1 m i
    refine x_iload_n dX2_locksOf_4 3 rfl rfl ?_
    refine x_bipush (v := nI 8) dX2_locksOf_5 (by decide) ?_
    refine x_icmp_ge (tgt := 33) dX2_locksOf_7 (by decide) (fun h_ => absurd h_ (fun h => absurd (nLe (by omega) (by omega) h) (by omega))) (fun _ => ?_)
    refine x_iload_n dX2_locksOf_10 2 rfl rfl ?_
    refine x_aload_n dX2_locksOf_11 0 rfl rfl ?_
    refine x_iload_n dX2_locksOf_12 1 rfl rfl ?_
    refine x_iload_n dX2_locksOf_13 3 rfl rfl ?_
    refine x_callV dX2_locksOf_14 (con_X2_lock hM (m := m) (s := i) hm (by omega)) (lw_V q1977 q1979 qs46 q101 q1980) (np := 2) (by decide +kernel) rfl (rcv_of vC_2 hM.1) ⟨Nat.le_of_ble_eq_true rfl, Nat.le_of_ble_eq_true rfl⟩ (Nat.le_of_ble_eq_true rfl) rfl (by decide) (by decide) (rS ?_) nI'
    refine x_top (x' := nI (hw S m i)) (hG.hwE hm (by omega)) ?_
    refine x_if_le (tgt := 24) dX2_locksOf_17 (by decide) (fun c1 => ?_) (fun c1 => ?_)
    · have hf : lockF S m i = false := by
        have := le0 (by omega) c1
        show (!(_ == 0)) = false
        simp [this]
      refine x_iconst (v := nI 0) dX2_locksOf_24 (by decide) ?_
      refine x_iadd dX2_locksOf_25 ?_
      refine x_top (x' := nI (cn (lockF S m) i + 0)) (nI_add _ _) ?_
      refine x_istore_n (i := 2) (L' := [(2, .int (nI (cn (lockF S m) i + 0))), (0, .ref a), (1, .int (nI m)), (3, .int (nI i))]) dX2_locksOf_26 rfl (by decide) rfl ?_
      refine x_iinc (i := 3) (q := 3) (v := nI (i + 1)) (L' := [(3, .int (nI (i + 1))), (2, .int (nI (cn (lockF S m) i + 0))), (0, .ref a), (1, .int (nI m))]) dX2_locksOf_27 rfl (nI_1 _) (by decide) rfl ?_
      refine x_goto (tgt := 4) dX2_locksOf_30 (by decide) ?_
      refine x_locs (L' := [(0, .ref a), (1, .int (nI m)), (2, .int (nI (cn (lockF S m) i + 0))), (3, .int (nI (i + 1)))]) [2, 3, 1, 0] rfl ?_
      have := ih (i + 1) (by omega)
      rw [cn_f hf] at this
      exact this
    · have hf : lockF S m i = true := by
        have := nle0 (by omega) c1
        show (!(_ == 0)) = true
        simp [this]
      refine x_iconst (v := nI 1) dX2_locksOf_20 (by decide) ?_
      refine x_goto (tgt := 25) dX2_locksOf_21 (by decide) ?_
      refine x_iadd dX2_locksOf_25 ?_
      refine x_top (x' := nI (cn (lockF S m) i + 1)) (nI_add _ _) ?_
      refine x_istore_n (i := 2) (L' := [(2, .int (nI (cn (lockF S m) i + 1))), (0, .ref a), (1, .int (nI m)), (3, .int (nI i))]) dX2_locksOf_26 rfl (by decide) rfl ?_
      refine x_iinc (i := 3) (q := 3) (v := nI (i + 1)) (L' := [(3, .int (nI (i + 1))), (2, .int (nI (cn (lockF S m) i + 1))), (0, .ref a), (1, .int (nI m))]) dX2_locksOf_27 rfl (nI_1 _) (by decide) rfl ?_
      refine x_goto (tgt := 4) dX2_locksOf_30 (by decide) ?_
      refine x_locs (L' := [(0, .ref a), (1, .int (nI m)), (2, .int (nI (cn (lockF S m) i + 1))), (3, .int (nI (i + 1)))]) [2, 3, 1, 0] rfl ?_
      have := ih (i + 1) (by omega)
      rw [cn_t hf] at this
      exact this
set_option maxHeartbeats 4000000 in
set_option maxRecDepth 100000 in
theorem con_X2_ahead {l : Launch} {G : YG} {σ : AH} {a : Nat} {ad : Nat → Nat} {M : MS} {S : AS} {m : Nat} (hM : MAt σ a ad M) (hG : GR (M.1 0) S) (hI : IV S) (hm : m < nC S) : Con l yX2_ahead cX2_ahead 4 (some FieldType.int) G 1 0 0 [.ref a, .int (nI m)] σ (PS σ (nI (ahd S m))) := by
  refine con_of (by decide) (Nat.le_of_ble_eq_true rfl) ?_
  refine x_locs (L' := [(0, .ref a), (1, .int (nI m))]) [0, 1] rfl ?_
  have hm24 : m < 24 := by have := hI.c; omega
  refine x_aload_n dX2_ahead_0 0 rfl rfl ?_
  refine x_iload_n dX2_ahead_1 1 rfl rfl ?_
  refine x_iconst (v := nI 1) dX2_ahead_2 (by decide) ?_
  refine x_callV dX2_ahead_3 (con_X2_of hM (m := m) (w := 1) hm24 (by decide)) (lw_V q1966 q1968 qs44 q101 q1969) (np := 2) (by decide +kernel) rfl (rcv_of vC_2 hM.1) ⟨Nat.le_of_ble_eq_true rfl, Nat.le_of_ble_eq_true rfl⟩ (Nat.le_of_ble_eq_true rfl) rfl (by decide) (by decide) (rS ?_) nI'
  refine x_top (x' := atI S m) ((hG.2.2.1 m hm).1) ?_
  refine x_istore_n (i := 2) (L' := [(2, .int (atI S m)), (0, .ref a), (1, .int (nI m))]) dX2_ahead_6 rfl (by decide) rfl ?_
  refine x_iconst (v := nI 0) dX2_ahead_7 (by decide) ?_
  refine x_istore_n (i := 3) (L' := [(3, .int (nI 0)), (2, .int (atI S m)), (0, .ref a), (1, .int (nI m))]) dX2_ahead_8 rfl (by decide) rfl ?_
  cases ha : aAt S m with
  | none =>
    have hr : ahd S m = 0 := by unfold ahd; rw [ha]
    refine x_iload_n dX2_ahead_9 1 rfl rfl ?_
    refine x_if_lt (tgt := 31) dX2_ahead_10 (by decide) (fun _ => ?_) (fun h_ => absurd (by rw [atI_none ha]; decide) h_)
    refine x_iload_n dX2_ahead_31 0 rfl rfl ?_
    exact x_iret dX2_ahead_32 rfl (pS' (by rw [hr]))
  | some s =>
    have hs : s < 8 := (aAt_some ha).1
    have hl8 := hI.len hs
    obtain ⟨w0, hw0⟩ := (aAt_some ha).2
    have hin : inRow m (qu S s) = true := by rw [inRow_wish, hw0]; rfl
    have hr : ahd S m = (aheadL m (qu S s)).length := by unfold ahd; rw [ha]
    rw [atI_some ha, hr]
    refine x_locs (L' := [(0, .ref a), (1, .int (nI m)), (2, .int (nI s)), (3, .int (nI 0))]) [2, 3, 1, 0] rfl ?_
    suffices loop : ∀ (d i : Nat), i + d = (aheadL m (qu S s)).length → X l yX2_ahead cX2_ahead 4 (some FieldType.int) [] G (yroom 1 0 0) (yEnd G (yroom 1 0 0) (PS σ (nI (aheadL m (qu S s)).length))) 9 [(0, .ref a), (1, .int (nI m)), (2, .int (nI s)), (3, .int (nI i))] [] σ 0 0 from loop ((aheadL m (qu S s)).length) 0 (Nat.zero_add _)
    intro d
    induction d with
    | zero =>
      intro i hi
      have hin : i = (aheadL m (qu S s)).length := by omega
      subst hin
      obtain ⟨x, hx, hxm⟩ := aheadL_end hin
      have hx8 : (aheadL m (qu S s)).length < 8 := Nat.lt_of_lt_of_le (List.getElem?_eq_some_iff.mp hx).1 hl8
      refine x_iload_n dX2_ahead_9 2 rfl rfl ?_
      refine x_if_lt (tgt := 31) dX2_ahead_10 (by decide) (fun h_ => absurd h_ (nI_pos (by omega))) (fun _ => ?_)
      refine x_aload_n dX2_ahead_13 0 rfl rfl ?_
      refine x_iload_n dX2_ahead_14 2 rfl rfl ?_
      refine x_iconst (v := nI 3) dX2_ahead_15 (by decide) ?_
      refine x_iload_n dX2_ahead_16 3 rfl rfl ?_
      refine x_iadd dX2_ahead_17 ?_
      refine x_top (x' := nI (3 + ((aheadL m (qu S s)).length))) (nI_add _ _) ?_
      refine x_callV dX2_ahead_18 (con_X2_shelf hM (s := s) (w := 3 + (aheadL m (qu S s)).length) hs (by omega)) (lw_V q1989 q1991 qs49 q101 q1992) (np := 2) (by decide +kernel) rfl (rcv_of vC_2 hM.1) ⟨Nat.le_of_ble_eq_true rfl, Nat.le_of_ble_eq_true rfl⟩ (Nat.le_of_ble_eq_true rfl) rfl (by decide) (by decide) (rS ?_) nI'
      refine x_top (x' := nI x.1) (hG.2.2.2.2.2 s _ x hs hx) ?_
      refine x_iload_n dX2_ahead_21 1 rfl rfl ?_
      refine x_icmp_eq (tgt := 31) dX2_ahead_22 (by decide) (fun _ => ?_) (fun h_ => absurd (by rw [hxm]) h_)
      refine x_iload_n dX2_ahead_31 3 rfl rfl ?_
      exact x_iret dX2_ahead_32 rfl (pS' (by rfl))
    | succ d ih =>
      intro i hi
      obtain ⟨x, hx, hxm, hxa⟩ := aheadL_get (m := m) (r := qu S s) (k := i) (by omega)
      have hx24 : x.1 < 24 := by have := hI.c; have := hI.th (hI.w hs (List.mem_of_getElem? hx)).1; omega
      have hx8 : i < 8 := Nat.lt_of_lt_of_le (List.getElem?_eq_some_iff.mp hx).1 hl8
      refine x_iload_n dX2_ahead_9 2 rfl rfl ?_
      refine x_if_lt (tgt := 31) dX2_ahead_10 (by decide) (fun h_ => absurd h_ (nI_pos (by omega))) (fun _ => ?_)
      refine x_aload_n dX2_ahead_13 0 rfl rfl ?_
      refine x_iload_n dX2_ahead_14 2 rfl rfl ?_
      refine x_iconst (v := nI 3) dX2_ahead_15 (by decide) ?_
      refine x_iload_n dX2_ahead_16 3 rfl rfl ?_
      refine x_iadd dX2_ahead_17 ?_
      refine x_top (x' := nI (3 + i)) (nI_add _ _) ?_
      refine x_callV dX2_ahead_18 (con_X2_shelf hM (s := s) (w := 3 + i) hs (by omega)) (lw_V q1989 q1991 qs49 q101 q1992) (np := 2) (by decide +kernel) rfl (rcv_of vC_2 hM.1) ⟨Nat.le_of_ble_eq_true rfl, Nat.le_of_ble_eq_true rfl⟩ (Nat.le_of_ble_eq_true rfl) rfl (by decide) (by decide) (rS ?_) nI'
      refine x_top (x' := nI x.1) (hG.2.2.2.2.2 s _ x hs hx) ?_
      refine x_iload_n dX2_ahead_21 1 rfl rfl ?_
      refine x_icmp_eq (tgt := 31) dX2_ahead_22 (by decide) (fun h_ => absurd h_ (fun h => hxm (nEq (by omega) (by omega) h))) (fun _ => ?_)
      refine x_iinc (i := 3) (q := 3) (v := nI (i + 1)) (L' := [(3, .int (nI (i + 1))), (0, .ref a), (1, .int (nI m)), (2, .int (nI s))]) dX2_ahead_25 rfl (nI_1 _) (by decide) rfl ?_
      refine x_goto (tgt := 9) dX2_ahead_28 (by decide) ?_
      refine x_locs (L' := [(0, .ref a), (1, .int (nI m)), (2, .int (nI s)), (3, .int (nI (i + 1)))]) [1, 2, 3, 0] rfl ?_
      exact ih (i + 1) (by omega)
set_option maxHeartbeats 4000000 in
set_option maxRecDepth 100000 in
theorem con_X2_maidOf {l : Launch} {G : YG} {σ : AH} {a : Nat} {ad : Nat → Nat} {M : MS} {S : AS} {v u : Int32} (hM : MAt σ a ad M) (hG : GR (M.1 0) S) (hI : IV S) : Con l yX2_maidOf cX2_maidOf 3 (some FieldType.int) G 2 0 0 [.ref a, .int v, .int u] σ (PS σ (qMaidOf S v u)) := by
  refine con_of (by decide) (Nat.le_of_ble_eq_true rfl) ?_
  refine x_locs (L' := [(0, .ref a), (1, .int v), (2, .int u)]) [0, 1, 2] rfl ?_
  refine x_aload_n dX2_maidOf_0 0 rfl rfl ?_
  refine x_iload_n dX2_maidOf_1 1 rfl rfl ?_
  refine x_callV dX2_maidOf_2 (con_X2_isMaid hM hG hI (v := v)) (lw_V q1959 q1961 qs43 q101 q1962) (np := 1) (by decide +kernel) rfl (rcv_of vC_2 hM.1) ⟨Nat.le_of_ble_eq_true rfl, Nat.le_of_ble_eq_true rfl⟩ (Nat.le_of_ble_eq_true rfl) rfl (by decide) (by decide) (rS ?_) nI'
  refine x_if_ne (tgt := 11) dX2_maidOf_5 (by decide) (fun c1 => ?_) (fun c1 => ?_)
  · have c1 := bI_1 c1
    obtain ⟨m, hm, rfl, hvn, htm⟩ := isT_of hI.c c1
    have hm24 : m < 24 := by have := hI.c; omega
    have hco : qMaidOf S (nI m) u = mOf S m u := by unfold qMaidOf; rw [c1]; show mOf S (iN (nI m)) u = _; rw [show iN (nI m) = m from hvn]
    rw [hco]
    refine x_iload_n dX2_maidOf_11 2 rfl rfl ?_
    by_cases e0 : u = nI 0
    · subst e0
      refine x_tableIn (off := 44) (tgt := 56) dX2_maidOf_12 (by decide) (by decide) rfl (by decide) ?_
      refine x_aload_n dX2_maidOf_56 0 rfl rfl ?_
      refine x_iload_n dX2_maidOf_57 1 rfl rfl ?_
      refine x_callV dX2_maidOf_58 (con_X2_locksOf hM hG hI hm24) (lw_V q2065 q2067 qs64 q101 q2068) (np := 1) (by decide +kernel) rfl (rcv_of vC_2 hM.1) ⟨Nat.le_of_ble_eq_true rfl, Nat.le_of_ble_eq_true rfl⟩ (Nat.le_of_ble_eq_true rfl) rfl (by decide) (by decide) (rS ?_) nI'
      exact x_iret dX2_maidOf_61 rfl (pS' (by rfl))
    by_cases e1 : u = nI 1
    · subst e1
      refine x_tableIn (off := 50) (tgt := 62) dX2_maidOf_12 (by decide) (by decide) rfl (by decide) ?_
      refine x_aload_n dX2_maidOf_62 0 rfl rfl ?_
      refine x_iload_n dX2_maidOf_63 1 rfl rfl ?_
      refine x_iconst (v := nI 1) dX2_maidOf_64 (by decide) ?_
      refine x_callV dX2_maidOf_65 (con_X2_of hM (m := m) (w := 1) hm24 (by decide)) (lw_V q1966 q1968 qs44 q101 q1969) (np := 2) (by decide +kernel) rfl (rcv_of vC_2 hM.1) ⟨Nat.le_of_ble_eq_true rfl, Nat.le_of_ble_eq_true rfl⟩ (Nat.le_of_ble_eq_true rfl) rfl (by decide) (by decide) (rS ?_) nI'
      refine x_top (x' := atI S m) ((hG.2.2.1 m hm).1) ?_
      cases ha : aAt S m with
      | none =>
        refine x_if_ge (tgt := 76) dX2_maidOf_68 (by decide) (fun h_ => absurd h_ (by rw [atI_none ha]; decide)) (fun _ => ?_)
        refine x_bipush (v := (-15)) dX2_maidOf_71 (by decide) ?_
        refine x_goto (tgt := 82) dX2_maidOf_73 (by decide) ?_
        exact x_iret dX2_maidOf_82 rfl (pS' (by show _ = atV S m; unfold atV; rw [ha]))
      | some s =>
        have hs := (aAt_some ha).1
        refine x_if_ge (tgt := 76) dX2_maidOf_68 (by decide) (fun _ => ?_) (fun h_ => absurd (by rw [atI_some ha]; exact nI_pos' (by omega)) h_)
        refine x_aload_n dX2_maidOf_76 0 rfl rfl ?_
        refine x_iload_n dX2_maidOf_77 1 rfl rfl ?_
        refine x_iconst (v := nI 1) dX2_maidOf_78 (by decide) ?_
        refine x_callV dX2_maidOf_79 (con_X2_of hM (m := m) (w := 1) hm24 (by decide)) (lw_V q1966 q1968 qs44 q101 q1969) (np := 2) (by decide +kernel) rfl (rcv_of vC_2 hM.1) ⟨Nat.le_of_ble_eq_true rfl, Nat.le_of_ble_eq_true rfl⟩ (Nat.le_of_ble_eq_true rfl) rfl (by decide) (by decide) (rS ?_) nI'
        refine x_top (x' := atI S m) ((hG.2.2.1 m hm).1) ?_
        exact x_iret dX2_maidOf_82 rfl (pS' (by show _ = atV S m; unfold atV; rw [ha]; exact atI_some ha))
    by_cases e2 : u = nI 2
    · subst e2
      refine x_tableIn (off := 71) (tgt := 83) dX2_maidOf_12 (by decide) (by decide) rfl (by decide) ?_
      refine x_aload_n dX2_maidOf_83 0 rfl rfl ?_
      refine x_iload_n dX2_maidOf_84 1 rfl rfl ?_
      refine x_callV dX2_maidOf_85 (con_X2_ahead hM hG hI hm) (lw_V q2069 q2071 qs65 q101 q2072) (np := 1) (by decide +kernel) rfl (rcv_of vC_2 hM.1) ⟨Nat.le_of_ble_eq_true rfl, Nat.le_of_ble_eq_true rfl⟩ (Nat.le_of_ble_eq_true rfl) rfl (by decide) (by decide) (rS ?_) nI'
      exact x_iret dX2_maidOf_88 rfl (pS' (by rfl))
    by_cases e3 : u = nI 3
    · subst e3
      refine x_tableIn (off := 77) (tgt := 89) dX2_maidOf_12 (by decide) (by decide) rfl (by decide) ?_
      refine x_aload_n dX2_maidOf_89 0 rfl rfl ?_
      refine x_iload_n dX2_maidOf_90 1 rfl rfl ?_
      refine x_iconst (v := nI 3) dX2_maidOf_91 (by decide) ?_
      refine x_callV dX2_maidOf_92 (con_X2_of hM (m := m) (w := 3) hm24 (by decide)) (lw_V q1966 q1968 qs44 q101 q1969) (np := 2) (by decide +kernel) rfl (rcv_of vC_2 hM.1) ⟨Nat.le_of_ble_eq_true rfl, Nat.le_of_ble_eq_true rfl⟩ (Nat.le_of_ble_eq_true rfl) rfl (by decide) (by decide) (rS ?_) nI'
      refine x_top (x' := nI (lG S m)) ((hG.2.1 m hm24).2.1) ?_
      exact x_iret dX2_maidOf_95 rfl (pS' (by rfl))
    by_cases e4 : u = nI 4
    · subst e4
      refine x_tableIn (off := 84) (tgt := 96) dX2_maidOf_12 (by decide) (by decide) rfl (by decide) ?_
      refine x_aload_n dX2_maidOf_96 0 rfl rfl ?_
      refine x_iload_n dX2_maidOf_97 1 rfl rfl ?_
      refine x_callV dX2_maidOf_98 (con_X2_waitsFor hM hG hI hm) (lw_V q2029 q2031 qs59 q101 q2032) (np := 1) (by decide +kernel) rfl (rcv_of vC_2 hM.1) ⟨Nat.le_of_ble_eq_true rfl, Nat.le_of_ble_eq_true rfl⟩ (Nat.le_of_ble_eq_true rfl) rfl (by decide) (by decide) (rR fun z hz => ?_) nI'
      exact x_iret dX2_maidOf_101 rfl (pS' (hz.enc))
    by_cases e5 : u = nI 5
    · subst e5
      refine x_tableIn (off := 90) (tgt := 102) dX2_maidOf_12 (by decide) (by decide) rfl (by decide) ?_
      refine x_aload_n dX2_maidOf_102 0 rfl rfl ?_
      refine x_iload_n dX2_maidOf_103 1 rfl rfl ?_
      refine x_iconst (v := nI 4) dX2_maidOf_104 (by decide) ?_
      refine x_callV dX2_maidOf_105 (con_X2_of hM (m := m) (w := 4) hm24 (by decide)) (lw_V q1966 q1968 qs44 q101 q1969) (np := 2) (by decide +kernel) rfl (rcv_of vC_2 hM.1) ⟨Nat.le_of_ble_eq_true rfl, Nat.le_of_ble_eq_true rfl⟩ (Nat.le_of_ble_eq_true rfl) rfl (by decide) (by decide) (rS ?_) nI'
      refine x_top (x' := nI (wT S m)) ((hG.2.1 m hm24).2.2.1) ?_
      exact x_iret dX2_maidOf_108 rfl (pS' (by rfl))
    by_cases e6 : u = nI 6
    · subst e6
      refine x_tableIn (off := 97) (tgt := 109) dX2_maidOf_12 (by decide) (by decide) rfl (by decide) ?_
      refine x_aload_n dX2_maidOf_109 0 rfl rfl ?_
      refine x_iload_n dX2_maidOf_110 1 rfl rfl ?_
      refine x_iconst (v := nI 5) dX2_maidOf_111 (by decide) ?_
      refine x_callV dX2_maidOf_112 (con_X2_of hM (m := m) (w := 5) hm24 (by decide)) (lw_V q1966 q1968 qs44 q101 q1969) (np := 2) (by decide +kernel) rfl (rcv_of vC_2 hM.1) ⟨Nat.le_of_ble_eq_true rfl, Nat.le_of_ble_eq_true rfl⟩ (Nat.le_of_ble_eq_true rfl) rfl (by decide) (by decide) (rS ?_) nI'
      refine x_top (x' := nI (gT S m)) ((hG.2.1 m hm24).2.2.2) ?_
      exact x_iret dX2_maidOf_115 rfl (pS' (by rfl))
    refine x_tableOut (tgt := 116) dX2_maidOf_12 (sw_out (n := 7) (by decide) (fun j hj => match j, hj with | 0, _ => e0 | 1, _ => e1 | 2, _ => e2 | 3, _ => e3 | 4, _ => e4 | 5, _ => e5 | 6, _ => e6 | _ + 7, hj => absurd hj (by omega))) (by decide) ?_
    refine x_bipush (v := (-12)) dX2_maidOf_116 (by decide) ?_
    exact x_iret dX2_maidOf_118 rfl (pS' (by unfold mOf; rw [if_neg e0, if_neg e1, if_neg e2, if_neg e3, if_neg e4, if_neg e5, if_neg e6]))
  · have c1 := bI_0 c1
    have hco : qMaidOf S v u = (-11) := by unfold qMaidOf; rw [c1]; rfl
    refine x_bipush (v := (-11)) dX2_maidOf_8 (by decide) ?_
    exact x_iret dX2_maidOf_10 rfl (pS' (by rw [hco]))
set_option maxHeartbeats 4000000 in
set_option maxRecDepth 100000 in
theorem con_X2_heldBy {l : Launch} {G : YG} {σ : AH} {a : Nat} {ad : Nat → Nat} {M : MS} {S : AS} {v p : Int32} (hM : MAt σ a ad M) (hG : GR (M.1 0) S) (hI : IV S) : Con l yX2_heldBy cX2_heldBy 5 (some FieldType.int) G 2 0 0 [.ref a, .int v, .int p] σ (PS σ (qHeldBy S v p)) := by
  refine con_of (by decide) (Nat.le_of_ble_eq_true rfl) ?_
  refine x_locs (L' := [(0, .ref a), (1, .int v), (2, .int p)]) [0, 1, 2] rfl ?_
  refine x_aload_n dX2_heldBy_0 0 rfl rfl ?_
  refine x_iload_n dX2_heldBy_1 1 rfl rfl ?_
  refine x_callV dX2_heldBy_2 (con_X2_isMaid hM hG hI (v := v)) (lw_V q1959 q1961 qs43 q101 q1962) (np := 1) (by decide +kernel) rfl (rcv_of vC_2 hM.1) ⟨Nat.le_of_ble_eq_true rfl, Nat.le_of_ble_eq_true rfl⟩ (Nat.le_of_ble_eq_true rfl) rfl (by decide) (by decide) (rS ?_) nI'
  refine x_if_ne (tgt := 11) dX2_heldBy_5 (by decide) (fun c1 => ?_) (fun c1 => ?_)
  · have c1 := bI_1 c1
    obtain ⟨m, hm, rfl, hvn, htm⟩ := isT_of hI.c c1
    have hm24 : m < 24 := by have := hI.c; omega
    have hco : qHeldBy S (nI m) p = pickF (lockF S m) (cn (lockF S m)) p 8 0 := by unfold qHeldBy; rw [c1]; show pickF (lockF S (iN (nI m))) _ p 8 0 = _; rw [show iN (nI m) = m from hvn]
    refine x_iconst (v := nI 0) dX2_heldBy_11 (by decide) ?_
    refine x_istore_n (i := 3) (L' := [(3, .int (nI 0)), (0, .ref a), (1, .int (nI m)), (2, .int p)]) dX2_heldBy_12 rfl (by decide) rfl ?_
    refine x_iconst (v := nI 0) dX2_heldBy_13 (by decide) ?_
    refine x_istore (i := 4) (L' := [(4, .int (nI 0)), (3, .int (nI 0)), (0, .ref a), (1, .int (nI m)), (2, .int p)]) dX2_heldBy_14 (by decide) rfl ?_
    refine x_locs (L' := [(0, .ref a), (1, .int (nI m)), (2, .int p), (3, .int (nI 0)), (4, .int (nI 0))]) [2, 3, 4, 1, 0] rfl ?_
    suffices loop : ∀ (d i : Nat), i + d = 8 → qHeldBy S (nI m) p = pickF (lockF S m) (cn (lockF S m)) p d i → X l yX2_heldBy cX2_heldBy 5 (some FieldType.int) [] G (yroom 2 0 0) (yEnd G (yroom 2 0 0) (PS σ (qHeldBy S (nI m) p))) 16 [(0, .ref a), (1, .int (nI m)), (2, .int p), (3, .int (nI (cn (lockF S m) i))), (4, .int (nI i))] [] σ 0 0 from loop (8) 0 (Nat.zero_add _) hco
    intro d
    induction d with
    | zero =>
      intro i hi hco
      have hin : i = 8 := by omega
      subst hin
      refine x_iload dX2_heldBy_16 4 rfl ?_
      refine x_bipush (v := nI 8) dX2_heldBy_18 (by decide) ?_
      refine x_icmp_ge (tgt := 53) dX2_heldBy_20 (by decide) (fun _ => ?_) (fun h_ => absurd (by decide) h_)
      refine x_bipush (v := (-11)) dX2_heldBy_53 (by decide) ?_
      exact x_iret dX2_heldBy_55 rfl (pS' (by rw [hco]; rfl))
    | succ d ih =>
      intro i hi hco
      have h2 := hI.2.2.1 m i
      have hcn := cn_le (f := lockF S m) (n := i)
      refine x_iload dX2_heldBy_16 4 rfl ?_
      refine x_bipush (v := nI 8) dX2_heldBy_18 (by decide) ?_
      refine x_icmp_ge (tgt := 53) dX2_heldBy_20 (by decide) (fun h_ => absurd h_ (fun h => absurd (nLe (by omega) (by omega) h) (by omega))) (fun _ => ?_)
      refine x_aload_n dX2_heldBy_23 0 rfl rfl ?_
      refine x_iload_n dX2_heldBy_24 1 rfl rfl ?_
      refine x_iload dX2_heldBy_25 4 rfl ?_
      refine x_callV dX2_heldBy_27 (con_X2_lock hM (m := m) (s := i) hm24 (by omega)) (lw_V q1977 q1979 qs46 q101 q1980) (np := 2) (by decide +kernel) rfl (rcv_of vC_2 hM.1) ⟨Nat.le_of_ble_eq_true rfl, Nat.le_of_ble_eq_true rfl⟩ (Nat.le_of_ble_eq_true rfl) rfl (by decide) (by decide) (rS ?_) nI'
      refine x_top (x' := nI (hw S m i)) (hG.hwE hm24 (by omega)) ?_
      refine x_if_ne (tgt := 36) dX2_heldBy_30 (by decide) (fun c2 => ?_) (fun c2 => ?_)
      · have hf : lockF S m i = true := by
          have := nN0 c2
          show (!(_ == 0)) = true
          simp [this]
        refine x_iload_n dX2_heldBy_36 3 rfl rfl ?_
        refine x_iload_n dX2_heldBy_37 2 rfl rfl ?_
        refine x_icmp_ne (tgt := 44) dX2_heldBy_38 (by decide) (fun c3 => ?_) (fun c3 => ?_)
        · refine x_iinc (i := 3) (q := 3) (v := nI (cn (lockF S m) i + 1)) (L' := [(3, .int (nI (cn (lockF S m) i + 1))), (0, .ref a), (1, .int (nI m)), (2, .int p), (4, .int (nI i))]) dX2_heldBy_44 rfl (nI_1 _) (by decide) rfl ?_
          refine x_iinc (i := 4) (q := 4) (v := nI (i + 1)) (L' := [(4, .int (nI (i + 1))), (3, .int (nI (cn (lockF S m) i + 1))), (0, .ref a), (1, .int (nI m)), (2, .int p)]) dX2_heldBy_47 rfl (nI_1 _) (by decide) rfl ?_
          refine x_goto (tgt := 16) dX2_heldBy_50 (by decide) ?_
          refine x_locs (L' := [(0, .ref a), (1, .int (nI m)), (2, .int p), (3, .int (nI (cn (lockF S m) i + 1))), (4, .int (nI (i + 1)))]) [2, 3, 4, 1, 0] rfl ?_
          have := ih (i + 1) (by omega) (hco.trans (pickF_n (Or.inr c3)))
          rw [cn_t hf] at this
          exact this
        · refine x_iload dX2_heldBy_41 4 rfl ?_
          exact x_iret dX2_heldBy_43 rfl (pS' (by rw [hco, pickF_y hf c3]))
      · have hf : lockF S m i = false := by
          have := n0 (by omega) c2
          show (!(_ == 0)) = false
          simp [this]
        refine x_goto (tgt := 47) dX2_heldBy_33 (by decide) ?_
        refine x_iinc (i := 4) (q := 4) (v := nI (i + 1)) (L' := [(4, .int (nI (i + 1))), (0, .ref a), (1, .int (nI m)), (2, .int p), (3, .int (nI (cn (lockF S m) i)))]) dX2_heldBy_47 rfl (nI_1 _) (by decide) rfl ?_
        refine x_goto (tgt := 16) dX2_heldBy_50 (by decide) ?_
        refine x_locs (L' := [(0, .ref a), (1, .int (nI m)), (2, .int p), (3, .int (nI (cn (lockF S m) i))), (4, .int (nI (i + 1)))]) [1, 2, 3, 4, 0] rfl ?_
        have := ih (i + 1) (by omega) (hco.trans (pickF_n (Or.inl hf)))
        rw [cn_f hf] at this
        exact this
  · have c1 := bI_0 c1
    have hco : qHeldBy S v p = (-11) := by unfold qHeldBy; rw [c1]; rfl
    refine x_bipush (v := (-11)) dX2_heldBy_8 (by decide) ?_
    exact x_iret dX2_heldBy_10 rfl (pS' (by rw [hco]))
set_option maxHeartbeats 4000000 in
set_option maxRecDepth 100000 in
theorem con_X2_holders {l : Launch} {G : YG} {σ : AH} {a : Nat} {ad : Nat → Nat} {M : MS} {S : AS} {s : Nat} (hM : MAt σ a ad M) (hG : GR (M.1 0) S) (hI : IV S) (hs : s < 8) : Con l yX2_holders cX2_holders 4 (some FieldType.int) G 1 0 0 [.ref a, .int (nI s)] σ (PS σ (nI (cn (heldF S s) (nC S)))) := by
  refine con_of (by decide) (Nat.le_of_ble_eq_true rfl) ?_
  refine x_locs (L' := [(0, .ref a), (1, .int (nI s))]) [0, 1] rfl ?_
  have hC := hI.c
  refine x_iconst (v := nI 0) dX2_holders_0 (by decide) ?_
  refine x_istore_n (i := 2) (L' := [(2, .int (nI 0)), (0, .ref a), (1, .int (nI s))]) dX2_holders_1 rfl (by decide) rfl ?_
  refine x_iconst (v := nI 0) dX2_holders_2 (by decide) ?_
  refine x_istore_n (i := 3) (L' := [(3, .int (nI 0)), (2, .int (nI 0)), (0, .ref a), (1, .int (nI s))]) dX2_holders_3 rfl (by decide) rfl ?_
  refine x_locs (L' := [(0, .ref a), (1, .int (nI s)), (2, .int (nI 0)), (3, .int (nI 0))]) [2, 3, 1, 0] rfl ?_
  suffices loop : ∀ (d i : Nat), i + d = nC S → X l yX2_holders cX2_holders 4 (some FieldType.int) [] G (yroom 1 0 0) (yEnd G (yroom 1 0 0) (PS σ (nI (cn (heldF S s) (nC S))))) 4 [(0, .ref a), (1, .int (nI s)), (2, .int (nI (cn (heldF S s) i))), (3, .int (nI i))] [] σ 0 0 from loop (nC S) 0 (Nat.zero_add _)
  intro d
  induction d with
  | zero =>
    intro i hi
    have hin : i = nC S := by omega
    subst hin
    refine x_iload_n dX2_holders_4 3 rfl rfl ?_
    refine x_aload_n dX2_holders_5 0 rfl rfl ?_
    refine x_get dX2_holders_6 vC_2 in_X2 hM.1 0 (by decide) q1876 rfl ?_
    refine x_iconst (v := nI 0) dX2_holders_9 (by decide) ?_
    refine x_iald (N := 429) (j := 0) (v := nI (nC S)) dX2_holders_10 (hM.2.1 0 rfl) (rfl) (by decide) (by decide) (hG.c) ?_
    refine x_icmp_ge (tgt := 37) dX2_holders_11 (by decide) (fun _ => ?_) (fun h_ => absurd ((nI_leI (by omega) (by omega)).mpr (Nat.le_refl _)) h_)
    refine x_iload_n dX2_holders_37 2 rfl rfl ?_
    exact x_iret dX2_holders_38 rfl (pS' (by rfl))
  | succ d ih =>
    intro i hi
    have h2 := hI.2.2.1 i s
    refine x_iload_n dX2_holders_4 3 rfl rfl ?_
    refine x_aload_n dX2_holders_5 0 rfl rfl ?_
    refine x_get dX2_holders_6 vC_2 in_X2 hM.1 0 (by decide) q1876 rfl ?_
    refine x_iconst (v := nI 0) dX2_holders_9 (by decide) ?_
    refine x_iald (N := 429) (j := 0) (v := nI (nC S)) dX2_holders_10 (hM.2.1 0 rfl) (rfl) (by decide) (by decide) (hG.c) ?_
    refine x_icmp_ge (tgt := 37) dX2_holders_11 (by decide) (fun h_ => absurd h_ (fun h => absurd (nLe (by omega) (by omega) h) (by omega))) (fun _ => ?_)
    refine x_iload_n dX2_holders_14 2 rfl rfl ?_
    refine x_aload_n dX2_holders_15 0 rfl rfl ?_
    refine x_iload_n dX2_holders_16 3 rfl rfl ?_
    refine x_iload_n dX2_holders_17 1 rfl rfl ?_
    refine x_callV dX2_holders_18 (con_X2_lock hM (m := i) (s := s) (by omega) hs) (lw_V q1977 q1979 qs46 q101 q1980) (np := 2) (by decide +kernel) rfl (rcv_of vC_2 hM.1) ⟨Nat.le_of_ble_eq_true rfl, Nat.le_of_ble_eq_true rfl⟩ (Nat.le_of_ble_eq_true rfl) rfl (by decide) (by decide) (rS ?_) nI'
    refine x_top (x' := nI (hw S i s)) (hG.hwE (by omega) hs) ?_
    refine x_if_le (tgt := 28) dX2_holders_21 (by decide) (fun c1 => ?_) (fun c1 => ?_)
    · have hf : heldF S s i = false := by
        have := le0 (by omega) c1
        show (!(_ == 0)) = false
        simp [this]
      refine x_iconst (v := nI 0) dX2_holders_28 (by decide) ?_
      refine x_iadd dX2_holders_29 ?_
      refine x_top (x' := nI (cn (heldF S s) i + 0)) (nI_add _ _) ?_
      refine x_istore_n (i := 2) (L' := [(2, .int (nI (cn (heldF S s) i + 0))), (0, .ref a), (1, .int (nI s)), (3, .int (nI i))]) dX2_holders_30 rfl (by decide) rfl ?_
      refine x_iinc (i := 3) (q := 3) (v := nI (i + 1)) (L' := [(3, .int (nI (i + 1))), (2, .int (nI (cn (heldF S s) i + 0))), (0, .ref a), (1, .int (nI s))]) dX2_holders_31 rfl (nI_1 _) (by decide) rfl ?_
      refine x_goto (tgt := 4) dX2_holders_34 (by decide) ?_
      refine x_locs (L' := [(0, .ref a), (1, .int (nI s)), (2, .int (nI (cn (heldF S s) i + 0))), (3, .int (nI (i + 1)))]) [2, 3, 1, 0] rfl ?_
      have := ih (i + 1) (by omega)
      rw [cn_f hf] at this
      exact this
    · have hf : heldF S s i = true := by
        have := nle0 (by omega) c1
        show (!(_ == 0)) = true
        simp [this]
      refine x_iconst (v := nI 1) dX2_holders_24 (by decide) ?_
      refine x_goto (tgt := 29) dX2_holders_25 (by decide) ?_
      refine x_iadd dX2_holders_29 ?_
      refine x_top (x' := nI (cn (heldF S s) i + 1)) (nI_add _ _) ?_
      refine x_istore_n (i := 2) (L' := [(2, .int (nI (cn (heldF S s) i + 1))), (0, .ref a), (1, .int (nI s)), (3, .int (nI i))]) dX2_holders_30 rfl (by decide) rfl ?_
      refine x_iinc (i := 3) (q := 3) (v := nI (i + 1)) (L' := [(3, .int (nI (i + 1))), (2, .int (nI (cn (heldF S s) i + 1))), (0, .ref a), (1, .int (nI s))]) dX2_holders_31 rfl (nI_1 _) (by decide) rfl ?_
      refine x_goto (tgt := 4) dX2_holders_34 (by decide) ?_
      refine x_locs (L' := [(0, .ref a), (1, .int (nI s)), (2, .int (nI (cn (heldF S s) i + 1))), (3, .int (nI (i + 1)))]) [2, 3, 1, 0] rfl ?_
      have := ih (i + 1) (by omega)
      rw [cn_t hf] at this
      exact this
set_option maxHeartbeats 4000000 in
set_option maxRecDepth 100000 in
theorem con_X2_howHeld {l : Launch} {G : YG} {σ : AH} {a : Nat} {ad : Nat → Nat} {M : MS} {S : AS} {s : Nat} (hM : MAt σ a ad M) (hG : GR (M.1 0) S) (hI : IV S) (hs : s < 8) : Con l yX2_howHeld cX2_howHeld 4 (some FieldType.int) G 1 0 0 [.ref a, .int (nI s)] σ (PS σ (nI (mx (fun o => hw S o s) (nC S)))) := by
  refine con_of (by decide) (Nat.le_of_ble_eq_true rfl) ?_
  refine x_locs (L' := [(0, .ref a), (1, .int (nI s))]) [0, 1] rfl ?_
  have hC := hI.c
  have hmx : ∀ n, mx (fun o => hw S o s) n ≤ 2 := fun n => mx_le.mpr (fun o _ => hI.2.2.1 o s)
  refine x_iconst (v := nI 0) dX2_howHeld_0 (by decide) ?_
  refine x_istore_n (i := 2) (L' := [(2, .int (nI 0)), (0, .ref a), (1, .int (nI s))]) dX2_howHeld_1 rfl (by decide) rfl ?_
  refine x_iconst (v := nI 0) dX2_howHeld_2 (by decide) ?_
  refine x_istore_n (i := 3) (L' := [(3, .int (nI 0)), (2, .int (nI 0)), (0, .ref a), (1, .int (nI s))]) dX2_howHeld_3 rfl (by decide) rfl ?_
  refine x_locs (L' := [(0, .ref a), (1, .int (nI s)), (2, .int (nI 0)), (3, .int (nI 0))]) [2, 3, 1, 0] rfl ?_
  suffices loop : ∀ (d i : Nat), i + d = nC S → X l yX2_howHeld cX2_howHeld 4 (some FieldType.int) [] G (yroom 1 0 0) (yEnd G (yroom 1 0 0) (PS σ (nI (mx (fun o => hw S o s) (nC S))))) 4 [(0, .ref a), (1, .int (nI s)), (2, .int (nI (mx (fun o => hw S o s) i))), (3, .int (nI i))] [] σ 0 0 from loop (nC S) 0 (Nat.zero_add _)
  intro d
  induction d with
  | zero =>
    intro i hi
    have hin : i = nC S := by omega
    subst hin
    refine x_iload_n dX2_howHeld_4 3 rfl rfl ?_
    refine x_aload_n dX2_howHeld_5 0 rfl rfl ?_
    refine x_get dX2_howHeld_6 vC_2 in_X2 hM.1 0 (by decide) q1876 rfl ?_
    refine x_iconst (v := nI 0) dX2_howHeld_9 (by decide) ?_
    refine x_iald (N := 429) (j := 0) (v := nI (nC S)) dX2_howHeld_10 (hM.2.1 0 rfl) (rfl) (by decide) (by decide) (hG.c) ?_
    refine x_icmp_ge (tgt := 41) dX2_howHeld_11 (by decide) (fun _ => ?_) (fun h_ => absurd ((nI_leI (by omega) (by omega)).mpr (Nat.le_refl _)) h_)
    refine x_iload_n dX2_howHeld_41 2 rfl rfl ?_
    exact x_iret dX2_howHeld_42 rfl (pS' (by rfl))
  | succ d ih =>
    intro i hi
    have h2 := hI.2.2.1 i s
    have hx := hmx i
    refine x_iload_n dX2_howHeld_4 3 rfl rfl ?_
    refine x_aload_n dX2_howHeld_5 0 rfl rfl ?_
    refine x_get dX2_howHeld_6 vC_2 in_X2 hM.1 0 (by decide) q1876 rfl ?_
    refine x_iconst (v := nI 0) dX2_howHeld_9 (by decide) ?_
    refine x_iald (N := 429) (j := 0) (v := nI (nC S)) dX2_howHeld_10 (hM.2.1 0 rfl) (rfl) (by decide) (by decide) (hG.c) ?_
    refine x_icmp_ge (tgt := 41) dX2_howHeld_11 (by decide) (fun h_ => absurd h_ (fun h => absurd (nLe (by omega) (by omega) h) (by omega))) (fun _ => ?_)
    refine x_aload_n dX2_howHeld_14 0 rfl rfl ?_
    refine x_iload_n dX2_howHeld_15 3 rfl rfl ?_
    refine x_iload_n dX2_howHeld_16 1 rfl rfl ?_
    refine x_callV dX2_howHeld_17 (con_X2_lock hM (m := i) (s := s) (by omega) hs) (lw_V q1977 q1979 qs46 q101 q1980) (np := 2) (by decide +kernel) rfl (rcv_of vC_2 hM.1) ⟨Nat.le_of_ble_eq_true rfl, Nat.le_of_ble_eq_true rfl⟩ (Nat.le_of_ble_eq_true rfl) rfl (by decide) (by decide) (rS ?_) nI'
    refine x_top (x' := nI (hw S i s)) (hG.hwE (by omega) hs) ?_
    refine x_iload_n dX2_howHeld_20 2 rfl rfl ?_
    refine x_icmp_le (tgt := 33) dX2_howHeld_21 (by decide) (fun c1 => ?_) (fun c1 => ?_)
    · have c1 := nLe (by omega) (by omega) c1
      have hs2 : mx (fun o => hw S o s) (i + 1) = mx (fun o => hw S o s) i := Nat.max_eq_left c1
      refine x_iload_n dX2_howHeld_33 2 rfl rfl ?_
      refine x_istore_n (i := 2) (L' := [(2, .int (nI (mx (fun o => hw S o s) i))), (0, .ref a), (1, .int (nI s)), (3, .int (nI i))]) dX2_howHeld_34 rfl (by decide) rfl ?_
      refine x_iinc (i := 3) (q := 3) (v := nI (i + 1)) (L' := [(3, .int (nI (i + 1))), (2, .int (nI (mx (fun o => hw S o s) i))), (0, .ref a), (1, .int (nI s))]) dX2_howHeld_35 rfl (nI_1 _) (by decide) rfl ?_
      refine x_goto (tgt := 4) dX2_howHeld_38 (by decide) ?_
      refine x_locs (L' := [(0, .ref a), (1, .int (nI s)), (2, .int (nI (mx (fun o => hw S o s) i))), (3, .int (nI (i + 1)))]) [2, 3, 1, 0] rfl ?_
      have := ih (i + 1) (by omega)
      rw [hs2] at this
      exact this
    · have c1 := nNle (by omega) (by omega) c1
      have hs2 : mx (fun o => hw S o s) (i + 1) = hw S i s := Nat.max_eq_right (Nat.le_of_lt c1)
      refine x_aload_n dX2_howHeld_24 0 rfl rfl ?_
      refine x_iload_n dX2_howHeld_25 3 rfl rfl ?_
      refine x_iload_n dX2_howHeld_26 1 rfl rfl ?_
      refine x_callV dX2_howHeld_27 (con_X2_lock hM (m := i) (s := s) (by omega) hs) (lw_V q1977 q1979 qs46 q101 q1980) (np := 2) (by decide +kernel) rfl (rcv_of vC_2 hM.1) ⟨Nat.le_of_ble_eq_true rfl, Nat.le_of_ble_eq_true rfl⟩ (Nat.le_of_ble_eq_true rfl) rfl (by decide) (by decide) (rS ?_) nI'
      refine x_top (x' := nI (hw S i s)) (hG.hwE (by omega) hs) ?_
      refine x_goto (tgt := 34) dX2_howHeld_30 (by decide) ?_
      refine x_istore_n (i := 2) (L' := [(2, .int (nI (hw S i s))), (0, .ref a), (1, .int (nI s)), (3, .int (nI i))]) dX2_howHeld_34 rfl (by decide) rfl ?_
      refine x_iinc (i := 3) (q := 3) (v := nI (i + 1)) (L' := [(3, .int (nI (i + 1))), (2, .int (nI (hw S i s))), (0, .ref a), (1, .int (nI s))]) dX2_howHeld_35 rfl (nI_1 _) (by decide) rfl ?_
      refine x_goto (tgt := 4) dX2_howHeld_38 (by decide) ?_
      refine x_locs (L' := [(0, .ref a), (1, .int (nI s)), (2, .int (nI (hw S i s))), (3, .int (nI (i + 1)))]) [2, 3, 1, 0] rfl ?_
      have := ih (i + 1) (by omega)
      rw [hs2] at this
      exact this
theorem wish_row {w : Wi} : ∀ {r : List Wi}, (r.map (fun w => w.1)).Nodup → w ∈ r → wishIn w.1 r = some w := by
  intro r
  induction r with
  | nil => intro _ h; cases h
  | cons x xs ih =>
    intro hn hm
    rw [wishIn_cons]
    rw [List.map_cons, List.nodup_cons] at hn
    rcases List.mem_cons.mp hm with e | e
    · subst e; rw [if_pos rfl]
    · rw [if_neg (fun z => hn.1 (by rw [z]; exact List.mem_map_of_mem e)), ih hn.2 e]
set_option maxHeartbeats 4000000 in
set_option maxRecDepth 100000 in
theorem con_X2_soleWaiters {l : Launch} {G : YG} {σ : AH} {a : Nat} {ad : Nat → Nat} {M : MS} {S : AS} {s : Nat} (hM : MAt σ a ad M) (hG : GR (M.1 0) S) (hI : IV S) (hs : s < 8) : Con l yX2_soleWaiters cX2_soleWaiters 4 (some FieldType.int) G 1 0 0 [.ref a, .int (nI s)] σ (PS σ (nI (cn (solF S s) (qu S s).length))) := by
  refine con_of (by decide) (Nat.le_of_ble_eq_true rfl) ?_
  refine x_locs (L' := [(0, .ref a), (1, .int (nI s))]) [0, 1] rfl ?_
  have hC := hI.c
  have hl8 := hI.len hs
  refine x_iconst (v := nI 0) dX2_soleWaiters_0 (by decide) ?_
  refine x_istore_n (i := 2) (L' := [(2, .int (nI 0)), (0, .ref a), (1, .int (nI s))]) dX2_soleWaiters_1 rfl (by decide) rfl ?_
  refine x_iconst (v := nI 0) dX2_soleWaiters_2 (by decide) ?_
  refine x_istore_n (i := 3) (L' := [(3, .int (nI 0)), (2, .int (nI 0)), (0, .ref a), (1, .int (nI s))]) dX2_soleWaiters_3 rfl (by decide) rfl ?_
  refine x_locs (L' := [(0, .ref a), (1, .int (nI s)), (2, .int (nI 0)), (3, .int (nI 0))]) [2, 3, 1, 0] rfl ?_
  suffices loop : ∀ (d i : Nat), i + d = (qu S s).length → X l yX2_soleWaiters cX2_soleWaiters 4 (some FieldType.int) [] G (yroom 1 0 0) (yEnd G (yroom 1 0 0) (PS σ (nI (cn (solF S s) (qu S s).length)))) 4 [(0, .ref a), (1, .int (nI s)), (2, .int (nI (cn (solF S s) i))), (3, .int (nI i))] [] σ 0 0 from loop ((qu S s).length) 0 (Nat.zero_add _)
  intro d
  induction d with
  | zero =>
    intro i hi
    have hin : i = (qu S s).length := by omega
    subst hin
    refine x_iload_n dX2_soleWaiters_4 3 rfl rfl ?_
    refine x_aload_n dX2_soleWaiters_5 0 rfl rfl ?_
    refine x_iload_n dX2_soleWaiters_6 1 rfl rfl ?_
    refine x_iconst (v := nI 2) dX2_soleWaiters_7 (by decide) ?_
    refine x_callV dX2_soleWaiters_8 (con_X2_shelf hM (s := s) (w := 2) hs (by decide)) (lw_V q1989 q1991 qs49 q101 q1992) (np := 2) (by decide +kernel) rfl (rcv_of vC_2 hM.1) ⟨Nat.le_of_ble_eq_true rfl, Nat.le_of_ble_eq_true rfl⟩ (Nat.le_of_ble_eq_true rfl) rfl (by decide) (by decide) (rS ?_) nI'
    refine x_top (x' := nI (qu S s).length) ((hG.2.2.2.2.1 s hs).2.2) ?_
    refine x_icmp_ge (tgt := 45) dX2_soleWaiters_11 (by decide) (fun _ => ?_) (fun h_ => absurd ((nI_leI (by omega) (by omega)).mpr (Nat.le_refl _)) h_)
    refine x_iload_n dX2_soleWaiters_45 2 rfl rfl ?_
    exact x_iret dX2_soleWaiters_46 rfl (pS' (by rfl))
  | succ d ih =>
    intro i hi
    obtain ⟨x, hx⟩ : ∃ x, (qu S s)[i]? = some x := ⟨_, List.getElem?_eq_getElem (by omega)⟩
    have hxr := hI.w hs (List.mem_of_getElem? hx)
    have hxC := hI.th hxr.1
    have hx24 : x.1 < 24 := by omega
    have hxk : kindOf S x.1 = x.2.1 := by
      have h1 := aAt_row hI.uq hs (List.mem_of_getElem? hx)
      unfold kindOf aWish
      rw [h1]
      simp only
      rw [wish_row (hI.nd hs) (List.mem_of_getElem? hx)]
    refine x_iload_n dX2_soleWaiters_4 3 rfl rfl ?_
    refine x_aload_n dX2_soleWaiters_5 0 rfl rfl ?_
    refine x_iload_n dX2_soleWaiters_6 1 rfl rfl ?_
    refine x_iconst (v := nI 2) dX2_soleWaiters_7 (by decide) ?_
    refine x_callV dX2_soleWaiters_8 (con_X2_shelf hM (s := s) (w := 2) hs (by decide)) (lw_V q1989 q1991 qs49 q101 q1992) (np := 2) (by decide +kernel) rfl (rcv_of vC_2 hM.1) ⟨Nat.le_of_ble_eq_true rfl, Nat.le_of_ble_eq_true rfl⟩ (Nat.le_of_ble_eq_true rfl) rfl (by decide) (by decide) (rS ?_) nI'
    refine x_top (x' := nI (qu S s).length) ((hG.2.2.2.2.1 s hs).2.2) ?_
    refine x_icmp_ge (tgt := 45) dX2_soleWaiters_11 (by decide) (fun h_ => absurd h_ (fun h => absurd (nLe (by omega) (by omega) h) (by omega))) (fun _ => ?_)
    refine x_iload_n dX2_soleWaiters_14 2 rfl rfl ?_
    refine x_aload_n dX2_soleWaiters_15 0 rfl rfl ?_
    refine x_aload_n dX2_soleWaiters_16 0 rfl rfl ?_
    refine x_iload_n dX2_soleWaiters_17 1 rfl rfl ?_
    refine x_iconst (v := nI 3) dX2_soleWaiters_18 (by decide) ?_
    refine x_iload_n dX2_soleWaiters_19 3 rfl rfl ?_
    refine x_iadd dX2_soleWaiters_20 ?_
    refine x_top (x' := nI (3 + i)) (nI_add _ _) ?_
    refine x_callV dX2_soleWaiters_21 (con_X2_shelf hM (s := s) (w := 3 + i) hs (by omega)) (lw_V q1989 q1991 qs49 q101 q1992) (np := 2) (by decide +kernel) rfl (rcv_of vC_2 hM.1) ⟨Nat.le_of_ble_eq_true rfl, Nat.le_of_ble_eq_true rfl⟩ (Nat.le_of_ble_eq_true rfl) rfl (by decide) (by decide) (rS ?_) nI'
    refine x_top (x' := nI x.1) (hG.2.2.2.2.2 s _ x hs hx) ?_
    refine x_iconst (v := nI 2) dX2_soleWaiters_24 (by decide) ?_
    refine x_callV dX2_soleWaiters_25 (con_X2_of hM (m := x.1) (w := 2) hx24 (by decide)) (lw_V q1966 q1968 qs44 q101 q1969) (np := 2) (by decide +kernel) rfl (rcv_of vC_2 hM.1) ⟨Nat.le_of_ble_eq_true rfl, Nat.le_of_ble_eq_true rfl⟩ (Nat.le_of_ble_eq_true rfl) rfl (by decide) (by decide) (rS ?_) nI'
    refine x_top (x' := nI x.2.1) ((hG.2.2.1 x.1 hxC).2.trans (by rw [hxk])) ?_
    refine x_iconst (v := nI 2) dX2_soleWaiters_28 (by decide) ?_
    refine x_icmp_ne (tgt := 36) dX2_soleWaiters_29 (by decide) (fun c1 => ?_) (fun c1 => ?_)
    · have hf : solF S s i = false := by
        have := nNe (by omega) (by omega) c1
        unfold solF; rw [hx]; simp [this]
      refine x_iconst (v := nI 0) dX2_soleWaiters_36 (by decide) ?_
      refine x_iadd dX2_soleWaiters_37 ?_
      refine x_top (x' := nI (cn (solF S s) i + 0)) (nI_add _ _) ?_
      refine x_istore_n (i := 2) (L' := [(2, .int (nI (cn (solF S s) i + 0))), (0, .ref a), (1, .int (nI s)), (3, .int (nI i))]) dX2_soleWaiters_38 rfl (by decide) rfl ?_
      refine x_iinc (i := 3) (q := 3) (v := nI (i + 1)) (L' := [(3, .int (nI (i + 1))), (2, .int (nI (cn (solF S s) i + 0))), (0, .ref a), (1, .int (nI s))]) dX2_soleWaiters_39 rfl (nI_1 _) (by decide) rfl ?_
      refine x_goto (tgt := 4) dX2_soleWaiters_42 (by decide) ?_
      refine x_locs (L' := [(0, .ref a), (1, .int (nI s)), (2, .int (nI (cn (solF S s) i + 0))), (3, .int (nI (i + 1)))]) [2, 3, 1, 0] rfl ?_
      have := ih (i + 1) (by omega)
      rw [cn_f hf] at this
      exact this
    · have hf : solF S s i = true := by
        have := nEq (by omega) (by omega) c1
        unfold solF; rw [hx]; simp [this]
      refine x_iconst (v := nI 1) dX2_soleWaiters_32 (by decide) ?_
      refine x_goto (tgt := 37) dX2_soleWaiters_33 (by decide) ?_
      refine x_iadd dX2_soleWaiters_37 ?_
      refine x_top (x' := nI (cn (solF S s) i + 1)) (nI_add _ _) ?_
      refine x_istore_n (i := 2) (L' := [(2, .int (nI (cn (solF S s) i + 1))), (0, .ref a), (1, .int (nI s)), (3, .int (nI i))]) dX2_soleWaiters_38 rfl (by decide) rfl ?_
      refine x_iinc (i := 3) (q := 3) (v := nI (i + 1)) (L' := [(3, .int (nI (i + 1))), (2, .int (nI (cn (solF S s) i + 1))), (0, .ref a), (1, .int (nI s))]) dX2_soleWaiters_39 rfl (nI_1 _) (by decide) rfl ?_
      refine x_goto (tgt := 4) dX2_soleWaiters_42 (by decide) ?_
      refine x_locs (L' := [(0, .ref a), (1, .int (nI s)), (2, .int (nI (cn (solF S s) i + 1))), (3, .int (nI (i + 1)))]) [2, 3, 1, 0] rfl ?_
      have := ih (i + 1) (by omega)
      rw [cn_t hf] at this
      exact this
set_option maxHeartbeats 4000000 in
set_option maxRecDepth 100000 in
theorem con_X2_shelfOf {l : Launch} {G : YG} {σ : AH} {a : Nat} {ad : Nat → Nat} {M : MS} {S : AS} {u v : Int32} (hM : MAt σ a ad M) (hG : GR (M.1 0) S) (hI : IV S) : Con l yX2_shelfOf cX2_shelfOf 3 (some FieldType.int) G 2 0 0 [.ref a, .int u, .int v] σ (PS σ (qShelfOf S u v)) := by
  refine con_of (by decide) (Nat.le_of_ble_eq_true rfl) ?_
  refine x_locs (L' := [(0, .ref a), (1, .int u), (2, .int v)]) [0, 1, 2] rfl ?_
  refine x_iload_n dX2_shelfOf_0 1 rfl rfl ?_
  refine x_callS dX2_shelfOf_1 (con_X2_isShelf (v := u)) (lw_S q1970 q1971 q101 q1972) (np := 1) (by decide +kernel) rfl ⟨Nat.le_of_ble_eq_true rfl, Nat.le_of_ble_eq_true rfl⟩ (Nat.le_of_ble_eq_true rfl) rfl (by decide) (by decide) (rS ?_) nI'
  refine x_if_ne (tgt := 10) dX2_shelfOf_4 (by decide) (fun c1 => ?_) (fun c1 => ?_)
  · have c1 : isS u = true := bI_1 c1
    obtain ⟨s, hs, rfl, hun⟩ := isS_of c1
    have hco : qShelfOf S (nI s) v = sOf S s v := by unfold qShelfOf; rw [c1]; show sOf S (iN (nI s)) v = _; rw [show iN (nI s) = s from hun]
    rw [hco]
    refine x_iload_n dX2_shelfOf_10 2 rfl rfl ?_
    by_cases e0 : v = nI 0
    · subst e0
      refine x_tableIn (off := 37) (tgt := 48) dX2_shelfOf_11 (by decide) (by decide) rfl (by decide) ?_
      refine x_aload_n dX2_shelfOf_48 0 rfl rfl ?_
      refine x_iload_n dX2_shelfOf_49 1 rfl rfl ?_
      refine x_callV dX2_shelfOf_50 (con_X2_holders hM hG hI hs) (lw_V q2081 q2083 qs66 q101 q2084) (np := 1) (by decide +kernel) rfl (rcv_of vC_2 hM.1) ⟨Nat.le_of_ble_eq_true rfl, Nat.le_of_ble_eq_true rfl⟩ (Nat.le_of_ble_eq_true rfl) rfl (by decide) (by decide) (rS ?_) nI'
      exact x_iret dX2_shelfOf_53 rfl (pS' (by rfl))
    by_cases e1 : v = nI 1
    · subst e1
      refine x_tableIn (off := 43) (tgt := 54) dX2_shelfOf_11 (by decide) (by decide) rfl (by decide) ?_
      refine x_aload_n dX2_shelfOf_54 0 rfl rfl ?_
      refine x_iload_n dX2_shelfOf_55 1 rfl rfl ?_
      refine x_callV dX2_shelfOf_56 (con_X2_howHeld hM hG hI hs) (lw_V q2085 q2087 qs67 q101 q2088) (np := 1) (by decide +kernel) rfl (rcv_of vC_2 hM.1) ⟨Nat.le_of_ble_eq_true rfl, Nat.le_of_ble_eq_true rfl⟩ (Nat.le_of_ble_eq_true rfl) rfl (by decide) (by decide) (rS ?_) nI'
      exact x_iret dX2_shelfOf_59 rfl (pS' (by rfl))
    by_cases e2 : v = nI 2
    · subst e2
      refine x_tableIn (off := 49) (tgt := 60) dX2_shelfOf_11 (by decide) (by decide) rfl (by decide) ?_
      refine x_aload_n dX2_shelfOf_60 0 rfl rfl ?_
      refine x_iload_n dX2_shelfOf_61 1 rfl rfl ?_
      refine x_iconst (v := nI 2) dX2_shelfOf_62 (by decide) ?_
      refine x_callV dX2_shelfOf_63 (con_X2_shelf hM (s := s) (w := 2) hs (by decide)) (lw_V q1989 q1991 qs49 q101 q1992) (np := 2) (by decide +kernel) rfl (rcv_of vC_2 hM.1) ⟨Nat.le_of_ble_eq_true rfl, Nat.le_of_ble_eq_true rfl⟩ (Nat.le_of_ble_eq_true rfl) rfl (by decide) (by decide) (rS ?_) nI'
      refine x_top (x' := nI (qu S s).length) ((hG.2.2.2.2.1 s hs).2.2) ?_
      exact x_iret dX2_shelfOf_66 rfl (pS' (by rfl))
    by_cases e3 : v = nI 3
    · subst e3
      refine x_tableIn (off := 56) (tgt := 67) dX2_shelfOf_11 (by decide) (by decide) rfl (by decide) ?_
      refine x_aload_n dX2_shelfOf_67 0 rfl rfl ?_
      refine x_iload_n dX2_shelfOf_68 1 rfl rfl ?_
      refine x_callV dX2_shelfOf_69 (con_X2_soleWaiters hM hG hI hs) (lw_V q2089 q2091 qs68 q101 q2092) (np := 1) (by decide +kernel) rfl (rcv_of vC_2 hM.1) ⟨Nat.le_of_ble_eq_true rfl, Nat.le_of_ble_eq_true rfl⟩ (Nat.le_of_ble_eq_true rfl) rfl (by decide) (by decide) (rS ?_) nI'
      exact x_iret dX2_shelfOf_72 rfl (pS' (by rfl))
    by_cases e4 : v = nI 4
    · subst e4
      refine x_tableIn (off := 62) (tgt := 73) dX2_shelfOf_11 (by decide) (by decide) rfl (by decide) ?_
      refine x_aload_n dX2_shelfOf_73 0 rfl rfl ?_
      refine x_iload_n dX2_shelfOf_74 1 rfl rfl ?_
      refine x_iconst (v := nI 0) dX2_shelfOf_75 (by decide) ?_
      refine x_callV dX2_shelfOf_76 (con_X2_shelf hM (s := s) (w := 0) hs (by decide)) (lw_V q1989 q1991 qs49 q101 q1992) (np := 2) (by decide +kernel) rfl (rcv_of vC_2 hM.1) ⟨Nat.le_of_ble_eq_true rfl, Nat.le_of_ble_eq_true rfl⟩ (Nat.le_of_ble_eq_true rfl) rfl (by decide) (by decide) (rS ?_) nI'
      refine x_top (x' := nI (gN S s)) ((hG.2.2.2.2.1 s hs).1) ?_
      exact x_iret dX2_shelfOf_79 rfl (pS' (by rfl))
    by_cases e5 : v = nI 5
    · subst e5
      refine x_tableIn (off := 69) (tgt := 80) dX2_shelfOf_11 (by decide) (by decide) rfl (by decide) ?_
      refine x_aload_n dX2_shelfOf_80 0 rfl rfl ?_
      refine x_iload_n dX2_shelfOf_81 1 rfl rfl ?_
      refine x_iconst (v := nI 1) dX2_shelfOf_82 (by decide) ?_
      refine x_callV dX2_shelfOf_83 (con_X2_shelf hM (s := s) (w := 1) hs (by decide)) (lw_V q1989 q1991 qs49 q101 q1992) (np := 2) (by decide +kernel) rfl (rcv_of vC_2 hM.1) ⟨Nat.le_of_ble_eq_true rfl, Nat.le_of_ble_eq_true rfl⟩ (Nat.le_of_ble_eq_true rfl) rfl (by decide) (by decide) (rS ?_) nI'
      refine x_top (x' := nI (lQ S s)) ((hG.2.2.2.2.1 s hs).2.1) ?_
      exact x_iret dX2_shelfOf_86 rfl (pS' (by rfl))
    refine x_tableOut (tgt := 87) dX2_shelfOf_11 (sw_out (n := 6) (by decide) (fun j hj => match j, hj with | 0, _ => e0 | 1, _ => e1 | 2, _ => e2 | 3, _ => e3 | 4, _ => e4 | 5, _ => e5 | _ + 6, hj => absurd hj (by omega))) (by decide) ?_
    refine x_bipush (v := (-12)) dX2_shelfOf_87 (by decide) ?_
    exact x_iret dX2_shelfOf_89 rfl (pS' (by unfold sOf; rw [if_neg e0, if_neg e1, if_neg e2, if_neg e3, if_neg e4, if_neg e5]))
  · have c1 : isS u = false := bI_0 c1
    have hco : qShelfOf S u v = (-11) := by unfold qShelfOf; rw [c1]; rfl
    refine x_bipush (v := (-11)) dX2_shelfOf_7 (by decide) ?_
    exact x_iret dX2_shelfOf_9 rfl (pS' (by rw [hco]))
set_option maxHeartbeats 4000000 in
set_option maxRecDepth 100000 in
theorem con_X2_holder {l : Launch} {G : YG} {σ : AH} {a : Nat} {ad : Nat → Nat} {M : MS} {S : AS} {u p : Int32} (hM : MAt σ a ad M) (hG : GR (M.1 0) S) (hI : IV S) : Con l yX2_holder cX2_holder 5 (some FieldType.int) G 2 0 0 [.ref a, .int u, .int p] σ (PS σ (qHolder S u p)) := by
  refine con_of (by decide) (Nat.le_of_ble_eq_true rfl) ?_
  refine x_locs (L' := [(0, .ref a), (1, .int u), (2, .int p)]) [0, 1, 2] rfl ?_
  refine x_iload_n dX2_holder_0 1 rfl rfl ?_
  refine x_callS dX2_holder_1 (con_X2_isShelf (v := u)) (lw_S q1970 q1971 q101 q1972) (np := 1) (by decide +kernel) rfl ⟨Nat.le_of_ble_eq_true rfl, Nat.le_of_ble_eq_true rfl⟩ (Nat.le_of_ble_eq_true rfl) rfl (by decide) (by decide) (rS ?_) nI'
  refine x_if_ne (tgt := 10) dX2_holder_4 (by decide) (fun c1 => ?_) (fun c1 => ?_)
  · have c1 : isS u = true := bI_1 c1
    obtain ⟨s, hs, rfl, hun⟩ := isS_of c1
    have hC := hI.c
    have hco : qHolder S (nI s) p = pickF (heldF S s) (cn (heldF S s)) p (nC S) 0 := by unfold qHolder; rw [c1]; show pickF (heldF S (iN (nI s))) _ p (nC S) 0 = _; rw [show iN (nI s) = s from hun]
    refine x_iconst (v := nI 0) dX2_holder_10 (by decide) ?_
    refine x_istore_n (i := 3) (L' := [(3, .int (nI 0)), (0, .ref a), (1, .int (nI s)), (2, .int p)]) dX2_holder_11 rfl (by decide) rfl ?_
    refine x_iconst (v := nI 0) dX2_holder_12 (by decide) ?_
    refine x_istore (i := 4) (L' := [(4, .int (nI 0)), (3, .int (nI 0)), (0, .ref a), (1, .int (nI s)), (2, .int p)]) dX2_holder_13 (by decide) rfl ?_
    refine x_locs (L' := [(0, .ref a), (1, .int (nI s)), (2, .int p), (3, .int (nI 0)), (4, .int (nI 0))]) [2, 3, 4, 1, 0] rfl ?_
    suffices loop : ∀ (d i : Nat), i + d = nC S → qHolder S (nI s) p = pickF (heldF S s) (cn (heldF S s)) p d i → X l yX2_holder cX2_holder 5 (some FieldType.int) [] G (yroom 2 0 0) (yEnd G (yroom 2 0 0) (PS σ (qHolder S (nI s) p))) 15 [(0, .ref a), (1, .int (nI s)), (2, .int p), (3, .int (nI (cn (heldF S s) i))), (4, .int (nI i))] [] σ 0 0 from loop (nC S) 0 (Nat.zero_add _) hco
    intro d
    induction d with
    | zero =>
      intro i hi hco
      have hin : i = nC S := by omega
      subst hin
      refine x_iload dX2_holder_15 4 rfl ?_
      refine x_aload_n dX2_holder_17 0 rfl rfl ?_
      refine x_get dX2_holder_18 vC_2 in_X2 hM.1 0 (by decide) q1876 rfl ?_
      refine x_iconst (v := nI 0) dX2_holder_21 (by decide) ?_
      refine x_iald (N := 429) (j := 0) (v := nI (nC S)) dX2_holder_22 (hM.2.1 0 rfl) (rfl) (by decide) (by decide) (hG.c) ?_
      refine x_icmp_ge (tgt := 56) dX2_holder_23 (by decide) (fun _ => ?_) (fun h_ => absurd ((nI_leI (by omega) (by omega)).mpr (Nat.le_refl _)) h_)
      refine x_bipush (v := (-11)) dX2_holder_56 (by decide) ?_
      exact x_iret dX2_holder_58 rfl (pS' (by rw [hco]; rfl))
    | succ d ih =>
      intro i hi hco
      have h2 := hI.2.2.1 i s
      have hcn := cn_le (f := heldF S s) (n := i)
      refine x_iload dX2_holder_15 4 rfl ?_
      refine x_aload_n dX2_holder_17 0 rfl rfl ?_
      refine x_get dX2_holder_18 vC_2 in_X2 hM.1 0 (by decide) q1876 rfl ?_
      refine x_iconst (v := nI 0) dX2_holder_21 (by decide) ?_
      refine x_iald (N := 429) (j := 0) (v := nI (nC S)) dX2_holder_22 (hM.2.1 0 rfl) (rfl) (by decide) (by decide) (hG.c) ?_
      refine x_icmp_ge (tgt := 56) dX2_holder_23 (by decide) (fun h_ => absurd h_ (fun h => absurd (nLe (by omega) (by omega) h) (by omega))) (fun _ => ?_)
      refine x_aload_n dX2_holder_26 0 rfl rfl ?_
      refine x_iload dX2_holder_27 4 rfl ?_
      refine x_iload_n dX2_holder_29 1 rfl rfl ?_
      refine x_callV dX2_holder_30 (con_X2_lock hM (m := i) (s := s) (by omega) hs) (lw_V q1977 q1979 qs46 q101 q1980) (np := 2) (by decide +kernel) rfl (rcv_of vC_2 hM.1) ⟨Nat.le_of_ble_eq_true rfl, Nat.le_of_ble_eq_true rfl⟩ (Nat.le_of_ble_eq_true rfl) rfl (by decide) (by decide) (rS ?_) nI'
      refine x_top (x' := nI (hw S i s)) (hG.hwE (by omega) hs) ?_
      refine x_if_ne (tgt := 39) dX2_holder_33 (by decide) (fun c2 => ?_) (fun c2 => ?_)
      · have hf : heldF S s i = true := by
          have := nN0 c2
          show (!(_ == 0)) = true
          simp [this]
        refine x_iload_n dX2_holder_39 3 rfl rfl ?_
        refine x_iload_n dX2_holder_40 2 rfl rfl ?_
        refine x_icmp_ne (tgt := 47) dX2_holder_41 (by decide) (fun c3 => ?_) (fun c3 => ?_)
        · refine x_iinc (i := 3) (q := 3) (v := nI (cn (heldF S s) i + 1)) (L' := [(3, .int (nI (cn (heldF S s) i + 1))), (0, .ref a), (1, .int (nI s)), (2, .int p), (4, .int (nI i))]) dX2_holder_47 rfl (nI_1 _) (by decide) rfl ?_
          refine x_iinc (i := 4) (q := 4) (v := nI (i + 1)) (L' := [(4, .int (nI (i + 1))), (3, .int (nI (cn (heldF S s) i + 1))), (0, .ref a), (1, .int (nI s)), (2, .int p)]) dX2_holder_50 rfl (nI_1 _) (by decide) rfl ?_
          refine x_goto (tgt := 15) dX2_holder_53 (by decide) ?_
          refine x_locs (L' := [(0, .ref a), (1, .int (nI s)), (2, .int p), (3, .int (nI (cn (heldF S s) i + 1))), (4, .int (nI (i + 1)))]) [2, 3, 4, 1, 0] rfl ?_
          have := ih (i + 1) (by omega) (hco.trans (pickF_n (Or.inr c3)))
          rw [cn_t hf] at this
          exact this
        · refine x_iload dX2_holder_44 4 rfl ?_
          exact x_iret dX2_holder_46 rfl (pS' (by rw [hco, pickF_y hf c3]))
      · have hf : heldF S s i = false := by
          have := n0 (by omega) c2
          show (!(_ == 0)) = false
          simp [this]
        refine x_goto (tgt := 50) dX2_holder_36 (by decide) ?_
        refine x_iinc (i := 4) (q := 4) (v := nI (i + 1)) (L' := [(4, .int (nI (i + 1))), (0, .ref a), (1, .int (nI s)), (2, .int p), (3, .int (nI (cn (heldF S s) i)))]) dX2_holder_50 rfl (nI_1 _) (by decide) rfl ?_
        refine x_goto (tgt := 15) dX2_holder_53 (by decide) ?_
        refine x_locs (L' := [(0, .ref a), (1, .int (nI s)), (2, .int p), (3, .int (nI (cn (heldF S s) i))), (4, .int (nI (i + 1)))]) [1, 2, 3, 4, 0] rfl ?_
        have := ih (i + 1) (by omega) (hco.trans (pickF_n (Or.inl hf)))
        rw [cn_f hf] at this
        exact this
  · have c1 : isS u = false := bI_0 c1
    have hco : qHolder S u p = (-11) := by unfold qHolder; rw [c1]; rfl
    refine x_bipush (v := (-11)) dX2_holder_7 (by decide) ?_
    exact x_iret dX2_holder_9 rfl (pS' (by rw [hco]))
set_option maxHeartbeats 4000000 in
set_option maxRecDepth 100000 in
theorem con_X2_waiter {l : Launch} {G : YG} {σ : AH} {a : Nat} {ad : Nat → Nat} {M : MS} {S : AS} {u p : Int32} (hM : MAt σ a ad M) (hG : GR (M.1 0) S) (hI : IV S) : Con l yX2_waiter cX2_waiter 3 (some FieldType.int) G 2 0 0 [.ref a, .int u, .int p] σ (PS σ (qWaiter S u p)) := by
  refine con_of (by decide) (Nat.le_of_ble_eq_true rfl) ?_
  refine x_locs (L' := [(0, .ref a), (1, .int u), (2, .int p)]) [0, 1, 2] rfl ?_
  refine x_iload_n dX2_waiter_0 1 rfl rfl ?_
  refine x_callS dX2_waiter_1 (con_X2_isShelf (v := u)) (lw_S q1970 q1971 q101 q1972) (np := 1) (by decide +kernel) rfl ⟨Nat.le_of_ble_eq_true rfl, Nat.le_of_ble_eq_true rfl⟩ (Nat.le_of_ble_eq_true rfl) rfl (by decide) (by decide) (rS ?_) nI'
  refine x_if_eq (tgt := 34) dX2_waiter_4 (by decide) (fun c1 => ?_) (fun c1 => ?_)
  · have c1 : isS u = false := bI_0 c1
    have hco : qWaiter S u p = (-11) := by unfold qWaiter; rw [c1]; rfl
    refine x_bipush (v := (-11)) dX2_waiter_34 (by decide) ?_
    exact x_iret dX2_waiter_36 rfl (pS' (by rw [hco]))
  · have c1 : isS u = true := bI_1 c1
    obtain ⟨s, hs, rfl, hun⟩ := isS_of c1
    have hC := hI.c
    have hl8 := hI.len hs
    refine x_iload_n dX2_waiter_7 2 rfl rfl ?_
    refine x_iconst (v := nI 0) dX2_waiter_8 (by decide) ?_
    refine x_aload_n dX2_waiter_9 0 rfl rfl ?_
    refine x_iload_n dX2_waiter_10 1 rfl rfl ?_
    refine x_iconst (v := nI 2) dX2_waiter_11 (by decide) ?_
    refine x_callV dX2_waiter_12 (con_X2_shelf hM (s := s) (w := 2) hs (by decide)) (lw_V q1989 q1991 qs49 q101 q1992) (np := 2) (by decide +kernel) rfl (rcv_of vC_2 hM.1) ⟨Nat.le_of_ble_eq_true rfl, Nat.le_of_ble_eq_true rfl⟩ (Nat.le_of_ble_eq_true rfl) rfl (by decide) (by decide) (rS ?_) nI'
    refine x_top (x' := nI (qu S s).length) ((hG.2.2.2.2.1 s hs).2.2) ?_
    refine x_iconst (v := nI 1) dX2_waiter_15 (by decide) ?_
    refine x_isub dX2_waiter_16 ?_
    refine x_callS dX2_waiter_17 (con_X2_in (v := p) (lo := nI 0) (hi := nI (qu S s).length - nI 1)) (lw_S q1963 q1964 q101 q1965) (np := 3) (by decide +kernel) rfl ⟨Nat.le_of_ble_eq_true rfl, Nat.le_of_ble_eq_true rfl⟩ (Nat.le_of_ble_eq_true rfl) rfl (by decide) (by decide) (rS ?_) nI'
    refine x_top (x' := bI (decide (0 ≤ p) && decide (p < nI (qu S s).length))) (by rw [le_pred (by omega)]; rfl) ?_
    refine x_if_eq (tgt := 34) dX2_waiter_20 (by decide) (fun c2 => ?_) (fun c2 => ?_)
    · have c2 := bI_0 c2
      refine x_bipush (v := (-11)) dX2_waiter_34 (by decide) ?_
      exact x_iret dX2_waiter_36 rfl (pS' (by unfold qWaiter; rw [show iN (nI s) = s from hun, c1, c2]; rfl))
    · have c2 := bI_1 c2
      have c3 := c2
      simp only [Bool.and_eq_true, decide_eq_true_eq] at c3
      obtain ⟨i, hi, rfl, hpn⟩ := i32_of c3.1 c3.2 (by omega)
      obtain ⟨x, hx⟩ : ∃ x, (qu S s)[i]? = some x := ⟨_, List.getElem?_eq_getElem (by omega)⟩
      have hxr := hI.w hs (List.mem_of_getElem? hx)
      have hxC := hI.th hxr.1
      have hx24 : x.1 < 24 := by omega
      have hxk : kindOf S x.1 = x.2.1 := by
        have h1 := aAt_row hI.uq hs (List.mem_of_getElem? hx)
        unfold kindOf aWish
        rw [h1]
        simp only
        rw [wish_row (hI.nd hs) (List.mem_of_getElem? hx)]
      refine x_aload_n dX2_waiter_23 0 rfl rfl ?_
      refine x_iload_n dX2_waiter_24 1 rfl rfl ?_
      refine x_iconst (v := nI 3) dX2_waiter_25 (by decide) ?_
      refine x_iload_n dX2_waiter_26 2 rfl rfl ?_
      refine x_iadd dX2_waiter_27 ?_
      refine x_top (x' := nI (3 + i)) (nI_add _ _) ?_
      refine x_callV dX2_waiter_28 (con_X2_shelf hM (s := s) (w := 3 + i) hs (by omega)) (lw_V q1989 q1991 qs49 q101 q1992) (np := 2) (by decide +kernel) rfl (rcv_of vC_2 hM.1) ⟨Nat.le_of_ble_eq_true rfl, Nat.le_of_ble_eq_true rfl⟩ (Nat.le_of_ble_eq_true rfl) rfl (by decide) (by decide) (rS ?_) nI'
      refine x_top (x' := nI x.1) (hG.2.2.2.2.2 s _ x hs hx) ?_
      refine x_goto (tgt := 36) dX2_waiter_31 (by decide) ?_
      exact x_iret dX2_waiter_36 rfl (pS' (by unfold qWaiter waiterN; rw [show iN (nI s) = s from hun, show iN (nI i) = i from hpn, c1, c2, hx]; rfl))
set_option maxHeartbeats 4000000 in
set_option maxRecDepth 100000 in
theorem con_X2_holds {l : Launch} {G : YG} {σ : AH} {a : Nat} {ad : Nat → Nat} {M : MS} {S : AS} {v u : Int32} (hM : MAt σ a ad M) (hG : GR (M.1 0) S) (hI : IV S) : Con l yX2_holds cX2_holds 3 (some FieldType.int) G 2 0 0 [.ref a, .int v, .int u] σ (PS σ (qHolds S v u)) := by
  refine con_of (by decide) (Nat.le_of_ble_eq_true rfl) ?_
  refine x_locs (L' := [(0, .ref a), (1, .int v), (2, .int u)]) [0, 1, 2] rfl ?_
  refine x_aload_n dX2_holds_0 0 rfl rfl ?_
  refine x_iload_n dX2_holds_1 1 rfl rfl ?_
  refine x_callV dX2_holds_2 (con_X2_isMaid hM hG hI (v := v)) (lw_V q1959 q1961 qs43 q101 q1962) (np := 1) (by decide +kernel) rfl (rcv_of vC_2 hM.1) ⟨Nat.le_of_ble_eq_true rfl, Nat.le_of_ble_eq_true rfl⟩ (Nat.le_of_ble_eq_true rfl) rfl (by decide) (by decide) (rS ?_) nI'
  refine x_if_eq (tgt := 24) dX2_holds_5 (by decide) (fun c1 => ?_) (fun c1 => ?_)
  · have c1 := bI_0 c1
    have hco : qHolds S v u = (-11) := by unfold qHolds; rw [c1]; rfl
    refine x_bipush (v := (-11)) dX2_holds_24 (by decide) ?_
    exact x_iret dX2_holds_26 rfl (pS' (by rw [hco]))
  · have c1 := bI_1 c1
    obtain ⟨m, hm, rfl, hvn, htm⟩ := isT_of hI.c c1
    have hm24 : m < 24 := by have := hI.c; omega
    refine x_iload_n dX2_holds_8 2 rfl rfl ?_
    refine x_callS dX2_holds_9 (con_X2_isShelf (v := u)) (lw_S q1970 q1971 q101 q1972) (np := 1) (by decide +kernel) rfl ⟨Nat.le_of_ble_eq_true rfl, Nat.le_of_ble_eq_true rfl⟩ (Nat.le_of_ble_eq_true rfl) rfl (by decide) (by decide) (rS ?_) nI'
    refine x_if_eq (tgt := 24) dX2_holds_12 (by decide) (fun c2 => ?_) (fun c2 => ?_)
    · have c2 : isS u = false := bI_0 c2
      refine x_bipush (v := (-11)) dX2_holds_24 (by decide) ?_
      exact x_iret dX2_holds_26 rfl (pS' (by unfold qHolds; rw [c1, c2]; rfl))
    · have c2 : isS u = true := bI_1 c2
      obtain ⟨s, hs, rfl, hun⟩ := isS_of c2
      refine x_aload_n dX2_holds_15 0 rfl rfl ?_
      refine x_iload_n dX2_holds_16 1 rfl rfl ?_
      refine x_iload_n dX2_holds_17 2 rfl rfl ?_
      refine x_callV dX2_holds_18 (con_X2_lock hM (m := m) (s := s) hm24 hs) (lw_V q1977 q1979 qs46 q101 q1980) (np := 2) (by decide +kernel) rfl (rcv_of vC_2 hM.1) ⟨Nat.le_of_ble_eq_true rfl, Nat.le_of_ble_eq_true rfl⟩ (Nat.le_of_ble_eq_true rfl) rfl (by decide) (by decide) (rS ?_) nI'
      refine x_top (x' := nI (hw S m s)) (hG.hwE hm24 hs) ?_
      refine x_goto (tgt := 26) dX2_holds_21 (by decide) ?_
      exact x_iret dX2_holds_26 rfl (pS' (by unfold qHolds; rw [c1, c2, show iN (nI s) = s from hun, show iN (nI m) = m from hvn]; rfl))
