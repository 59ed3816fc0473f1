set_option maxRecDepth 100000
theorem fits_bI (b : Bool) : fits .boolean (.int (bI b)) = true := by cases b <;> rfl
theorem pushP_len {past : List AS} {S : AS} (h : past.length ≤ 8) : (pushP past S).length = (if past.length = 8 then 8 else past.length + 1) := by
  unfold pushP
  split
  · rename_i e; rw [List.length_append, List.length_drop, e]; rfl
  · rw [List.length_append]; rfl
theorem pushP_get {past : List AS} {S P : AS} {i : Nat} (h : (pushP past S)[i]? = some P) : (past.length = 8 ∧ i < 7 ∧ past[i + 1]? = some P) ∨ (past.length = 8 ∧ i = 7 ∧ P = S) ∨ (past.length ≠ 8 ∧ i < past.length ∧ past[i]? = some P) ∨ (past.length ≠ 8 ∧ i = past.length ∧ P = S) := by
  unfold pushP at h
  split at h
  · rename_i e
    rw [List.getElem?_append] at h
    rw [List.length_drop, e] at h
    split at h
    · rename_i h2
      rw [List.getElem?_drop, Nat.add_comm] at h
      exact Or.inl ⟨e, h2, h⟩
    · rename_i h2
      have := (List.getElem?_eq_some_iff.mp h).1
      have h3 : i = 7 := by simp at this; omega
      subst h3
      cases h
      exact Or.inr (Or.inl ⟨e, rfl, rfl⟩)
  · rename_i e
    rw [List.getElem?_append] at h
    split at h
    · rename_i h2
      exact Or.inr (Or.inr (Or.inl ⟨e, h2, h⟩))
    · rename_i h2
      have := (List.getElem?_eq_some_iff.mp h).1
      have h3 : i = past.length := by simp at this; omega
      subst h3
      rw [Nat.sub_self] at h
      cases h
      exact Or.inr (Or.inr (Or.inr ⟨e, rfl, rfl⟩))
set_option maxHeartbeats 4000000 in
set_option maxRecDepth 100000 in
theorem con_X2_keeps {l : Launch} {G : YG} {σ : AH} {a : Nat} {ad : Nat → Nat} {M : MS} {S : AS} {r : Nat} {past : List AS} {wi : Bool} (hM : MAt σ a ad M) (hr : r = 0 ∨ r = 3) (hG : GR (M.1 r) S) (hI : IV S) (hK : KR M past) (hIP : ∀ P ∈ past, IV P) (hW : M.2 7 = bI wi) : Con l yX2_keeps cX2_keeps 3 none G 1 0 0 [.ref a, .ref (ad r)] σ (PV fun τ => ∃ N, MAt τ a ad N ∧ MF a ad σ τ ∧ (∀ i, i ≠ 1 → N.1 i = M.1 i) ∧ (∀ j, j ≠ 6 → N.2 j = M.2 j) ∧ KR N (if wi then past else pushP past S)) := by
  refine con_of (by decide) (Nat.le_of_ble_eq_true rfl) ?_
  refine x_locs (L' := [(0, .ref a), (1, .ref (ad r))]) [0, 1] rfl ?_
  have hrI : mIs r = true := by rcases hr with e | e <;> (subst e; rfl)
  have hrL : mLen r = 429 ∧ mKd r = 0 := by rcases hr with e | e <;> (subst e; exact ⟨rfl, rfl⟩)
  have hr1 : r ≠ 1 := by rcases hr with e | e <;> (subst e; decide)
  obtain ⟨hk1, hk2, hk3⟩ := id hK
  have tail : ∀ (τ : AH) (N : MS) (p2 : List AS), MAt τ a ad N → MF a ad σ τ → (∀ i, i ≠ 1 → N.1 i = M.1 i) → (∀ j, j ≠ 6 → N.2 j = M.2 j) → N.2 6 = nI p2.length → p2.length ≤ 7 → (∀ i P, p2[i]? = some P → GR (fun j => N.1 1 (429 * i + j)) P) → (∀ P ∈ p2, IV P) → p2 ++ [S] = (if wi then past else pushP past S) → X l yX2_keeps cX2_keeps 3 none [] G (yroom 1 0 0) (yEnd G (yroom 1 0 0) (PV fun τ => ∃ N, MAt τ a ad N ∧ MF a ad σ τ ∧ (∀ i, i ≠ 1 → N.1 i = M.1 i) ∧ (∀ j, j ≠ 6 → N.2 j = M.2 j) ∧ KR N (if wi then past else pushP past S))) 58 [(0, .ref a), (1, .ref (ad r))] [] τ 0 0 := by
    intro τ N p2 hN hFN hNi hNj hc hp7 hgr hip he
    refine x_aload_n dX2_keeps_58 1 rfl rfl ?_
    refine x_iconst (v := nI 0) dX2_keeps_59 (by decide) ?_
    refine x_aload_n dX2_keeps_60 0 rfl rfl ?_
    refine x_get dX2_keeps_61 vC_2 in_X2 hN.1 1 (by decide) q1877 rfl ?_
    refine x_sipush (v := nI 429) dX2_keeps_64 (by decide) ?_
    refine x_aload_n dX2_keeps_67 0 rfl rfl ?_
    refine x_get dX2_keeps_68 vC_2 in_X2 hN.1 6 (by decide) q1882 rfl ?_
    refine x_imul dX2_keeps_71 ?_
    refine x_top (x' := nI (429 * p2.length)) (by rw [hc, pk_mul]) ?_
    have hpr : τ (ad r) = some (.inl (0, 429, .inl (N.1 r))) := by have := hN.2.1 r hrI; rw [hrL.1, hrL.2] at this; exact this
    refine x_callS dX2_keeps_72 (con_X2_copies (p := ad r) (q := ad 1) (N1 := 429) (N2 := 3432) (at_ := 0) (on := 429 * p2.length) (f := N.1 r) (g := N.1 1) hpr (hN.2.1 1 rfl) (fun z => hr1 (hN.2.2 r 1 hrI rfl z)) (by decide) (by omega) (by decide) (by decide)) (lw_S q1948 q1949 q101 q1950) (np := 4) (by decide +kernel) rfl ⟨Nat.le_of_ble_eq_true rfl, Nat.le_of_ble_eq_true rfl⟩ (Nat.le_of_ble_eq_true rfl) rfl (by decide) (by decide) (rV fun σ1 h5 => ?_) nV'
    obtain ⟨hA5, hF5⟩ := hN.arr (k := 1) rfl h5.1 h5.2
    refine x_aload_n dX2_keeps_75 0 rfl rfl ?_
    refine x_dup dX2_keeps_76 rfl ?_
    refine x_get dX2_keeps_77 vC_2 in_X2 hA5.1 6 (by decide) q1882 rfl ?_
    refine x_iconst (v := nI 1) dX2_keeps_80 (by decide) ?_
    refine x_iadd dX2_keeps_81 ?_
    refine x_top (x' := nI (p2.length + 1)) (by rw [show (mA N 1 (va_cpy (N.1 r) (N.1 1) 0 (429 * p2.length) 429)).2 6 = nI p2.length from hc]; exact nI_1 _) ?_
    refine x_put (fs' := mFs ad (mS (mA N 1 (va_cpy (N.1 r) (N.1 1) 0 (429 * p2.length) 429)) 6 (nI (p2.length + 1)))) dX2_keeps_82 vC_2 in_X2 tyX2_ok nmX2 hA5.1 6 (by decide) q1882 rfl rfl (rfl) (rfl) (Nat.le_of_ble_eq_true rfl) rfl (fun σ3 h4 h5 => ?_)
    obtain ⟨hAM6, hBM6⟩ := hA5.fld (k := 6) (v := nI (p2.length + 1)) h4 h5
    have e1 : ∀ i, i ≠ 1 → (mS (mA N 1 (va_cpy (N.1 r) (N.1 1) 0 (429 * p2.length) 429)) 6 (nI (p2.length + 1))).1 i = M.1 i := fun i hi => by
      show (if i = 1 then _ else N.1 i) = _
      rw [if_neg hi]; exact hNi i hi
    have e2 : ∀ j, j ≠ 6 → (mS (mA N 1 (va_cpy (N.1 r) (N.1 1) 0 (429 * p2.length) 429)) 6 (nI (p2.length + 1))).2 j = M.2 j := fun j hj => by
      show (if j = 6 then _ else N.2 j) = _
      rw [if_neg hj]; exact hNj j hj
    refine x_vret dX2_keeps_85 rfl ⟨rfl, _, hAM6, (MF.tr (MF.tr hFN hF5) hBM6), e1, e2, ?_⟩
    rw [← he]
    refine ⟨by rw [List.length_append]; rfl, by rw [List.length_append]; simp; omega, fun i P hP => ?_⟩
    rw [List.getElem?_append] at hP
    split at hP
    · rename_i hi
      refine (hip P (List.mem_of_getElem? hP)).ex (hgr i P hP) (fun j hj => ?_)
      show va_cpy (N.1 r) (N.1 1) 0 (429 * p2.length) 429 (429 * i + j) = _
      exact pk_cpy_out (Or.inl (by omega))
    · rename_i hi
      have hil := (List.getElem?_eq_some_iff.mp hP).1
      have hie : i = p2.length := by simp at hil; omega
      subst hie
      rw [Nat.sub_self] at hP
      cases hP
      refine hI.ex hG (fun j hj => ?_)
      show va_cpy (N.1 r) (N.1 1) 0 (429 * p2.length) 429 (429 * p2.length + j) = _
      rw [pk_cpy_in (by omega) (by omega), hNi r hr1, show 0 + (429 * p2.length + j - 429 * p2.length) = j by omega]
  refine x_aload_n dX2_keeps_0 0 rfl rfl ?_
  refine x_get dX2_keeps_1 vC_2 in_X2 hM.1 7 (by decide) q1883 rfl ?_
  refine x_top (x' := bI wi) (hW) ?_
  refine x_if_eq (tgt := 8) dX2_keeps_4 (by decide) (fun c1 => ?_) (fun c1 => ?_)
  · have c1 := bI_0 c1
    refine x_aload_n dX2_keeps_8 0 rfl rfl ?_
    refine x_get dX2_keeps_9 vC_2 in_X2 hM.1 6 (by decide) q1882 rfl ?_
    refine x_bipush (v := nI 8) dX2_keeps_12 (by decide) ?_
    refine x_icmp_ne (tgt := 58) dX2_keeps_14 (by decide) (fun c2 => ?_) (fun c2 => ?_)
    · have c2 : past.length ≠ 8 := fun z => c2 (hk1.trans (by rw [z]))
      refine x_locs (L' := [(0, .ref a), (1, .ref (ad r))]) [0, 1] rfl ?_
      exact tail σ M past hM MF.rf (fun _ _ => rfl) (fun _ _ => rfl) hk1 (by omega) hk3 hIP (by rw [c1]; show _ = pushP past S; unfold pushP; rw [if_neg c2])
    · have c2 := nEq (by omega) (by decide) (hk1.symm.trans c2)
      refine x_iconst (v := nI 0) dX2_keeps_17 (by decide) ?_
      refine x_istore_n (i := 2) (L' := [(2, .int (nI 0)), (0, .ref a), (1, .ref (ad r))]) dX2_keeps_18 rfl (by decide) rfl ?_
      refine x_locs (L' := [(0, .ref a), (1, .ref (ad r)), (2, .int (nI 0))]) [1, 2, 0] rfl ?_
      suffices loop : ∀ (d k : Nat) (τ : AH) (N : MS), k + d = 3003 → MAt τ a ad N → MF a ad σ τ → (∀ i, i ≠ 1 → N.1 i = M.1 i) → N.2 = M.2 → (∀ j, N.1 1 j = if j < k then M.1 1 (j + 429) else M.1 1 j) → X l yX2_keeps cX2_keeps 3 none [] G (yroom 1 0 0) (yEnd G (yroom 1 0 0) (PV fun τ => ∃ N, MAt τ a ad N ∧ MF a ad σ τ ∧ (∀ i, i ≠ 1 → N.1 i = M.1 i) ∧ (∀ j, j ≠ 6 → N.2 j = M.2 j) ∧ KR N (if wi then past else pushP past S))) 19 [(0, .ref a), (1, .ref (ad r)), (2, .int (nI k))] [] τ 0 0 from loop 3003 0 σ M rfl hM MF.rf (fun _ _ => rfl) rfl (fun j => by simp)
      intro d
      induction d with
      | zero =>
        intro k τ N hk hN hFN hNi hNj hg
        have hk8 : k = 3003 := by omega
        subst hk8
        refine x_iload_n dX2_keeps_19 2 rfl rfl ?_
        refine x_sipush (v := nI 3003) dX2_keeps_20 (by decide) ?_
        refine x_icmp_ge (tgt := 48) dX2_keeps_23 (by decide) (fun _ => ?_) (fun h_ => absurd (by decide) h_)
        refine x_aload_n dX2_keeps_48 0 rfl rfl ?_
        refine x_dup dX2_keeps_49 rfl ?_
        refine x_get dX2_keeps_50 vC_2 in_X2 hN.1 6 (by decide) q1882 rfl ?_
        refine x_iconst (v := nI 1) dX2_keeps_53 (by decide) ?_
        refine x_isub dX2_keeps_54 ?_
        refine x_top (x' := nI 7) (by rw [hNj, hk1, c2]; decide) ?_
        refine x_put (fs' := mFs ad (mS N 6 (nI 7))) dX2_keeps_55 vC_2 in_X2 tyX2_ok nmX2 hN.1 6 (by decide) q1882 rfl rfl (rfl) (rfl) (Nat.le_of_ble_eq_true rfl) rfl (fun σ7 h8 h9 => ?_)
        obtain ⟨hAM10, hBM10⟩ := hN.fld (k := 6) (v := nI 7) h8 h9
        refine x_locs (L' := [(0, .ref a), (1, .ref (ad r))]) [0, 1] rfl ?_
        refine tail _ _ (past.drop 1) hAM10 (MF.tr hFN hBM10) (fun i hi => hNi i hi) (fun j hj => ?_) (by rw [List.length_drop, c2]; rfl) (by rw [List.length_drop]; omega) (fun i P hP => ?_) (fun P hP => hIP P (List.mem_of_mem_drop hP)) (by rw [c1]; show _ = pushP past S; unfold pushP; rw [if_pos c2])
        · show (if j = 6 then _ else N.2 j) = _
          rw [if_neg hj, hNj]
        · rw [List.getElem?_drop, Nat.add_comm] at hP
          have hi := (List.getElem?_eq_some_iff.mp hP).1
          refine (hIP P (List.mem_of_getElem? hP)).ex (hk3 (i + 1) P hP) (fun j hj => ?_)
          show N.1 1 (429 * i + j) = _
          rw [hg, if_pos (by omega)]
          show M.1 1 (429 * i + j + 429) = M.1 1 (429 * (i + 1) + j)
          rw [show 429 * i + j + 429 = 429 * (i + 1) + j by omega]
      | succ d ih =>
        intro k τ N hk hN hFN hNi hNj hg
        refine x_iload_n dX2_keeps_19 2 rfl rfl ?_
        refine x_sipush (v := nI 3003) dX2_keeps_20 (by decide) ?_
        refine x_icmp_ge (tgt := 48) dX2_keeps_23 (by decide) (fun h_ => absurd h_ (fun h => absurd (nLe (by omega) (by omega) h) (by omega))) (fun _ => ?_)
        refine x_aload_n dX2_keeps_26 0 rfl rfl ?_
        refine x_get dX2_keeps_27 vC_2 in_X2 hN.1 1 (by decide) q1877 rfl ?_
        refine x_iload_n dX2_keeps_30 2 rfl rfl ?_
        refine x_aload_n dX2_keeps_31 0 rfl rfl ?_
        refine x_get dX2_keeps_32 vC_2 in_X2 hN.1 1 (by decide) q1877 rfl ?_
        refine x_iload_n dX2_keeps_35 2 rfl rfl ?_
        refine x_sipush (v := nI 429) dX2_keeps_36 (by decide) ?_
        refine x_iadd dX2_keeps_39 ?_
        refine x_top (x' := nI (k + 429)) (nI_add _ _) ?_
        refine x_iald (N := 3432) (j := k + 429) (v := (M.1 1 (k + 429))) dX2_keeps_40 (hN.2.1 1 rfl) (rfl) (by omega) (by decide) (by rw [hg, if_neg (by omega)]) ?_
        refine x_iast (N := 3432) (j := k) (w := M.1 1 (k + 429)) dX2_keeps_41 (hN.2.1 1 rfl) rfl (by omega) (by decide) (fun τ2 g1 g2 => ?_)
        obtain ⟨hA6, hF6⟩ := hN.arr (k := 1) rfl g1 g2
        refine x_iinc (i := 2) (q := 2) (v := nI (k + 1)) (L' := [(2, .int (nI (k + 1))), (0, .ref a), (1, .ref (ad r))]) dX2_keeps_42 rfl (nI_1 _) (by decide) rfl ?_
        refine x_goto (tgt := 19) dX2_keeps_45 (by decide) ?_
        refine x_locs (L' := [(0, .ref a), (1, .ref (ad r)), (2, .int (nI (k + 1)))]) [1, 2, 0] rfl ?_
        refine ih (k + 1) τ2 _ (by omega) hA6 (hFN.tr hF6) (fun i hi => ?_) hNj (fun j => ?_)
        · show (if i = 1 then _ else N.1 i) = _
          rw [if_neg hi]; exact hNi i hi
        · show upd (N.1 1) k (M.1 1 (k + 429)) j = _
          by_cases e : j = k
          · subst e; rw [pk_us, if_pos (by omega)]
          · rw [pk_un e, hg]
            by_cases h : j < k
            · rw [if_pos h, if_pos (by omega)]
            · rw [if_neg h, if_neg (by omega)]
  · have c1 := bI_1 c1
    exact x_vret dX2_keeps_7 rfl (⟨rfl, M, hM, MF.rf, fun _ _ => rfl, fun _ _ => rfl, by rw [c1]; exact hK⟩)
