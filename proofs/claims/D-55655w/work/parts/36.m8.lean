set_option maxRecDepth 100000
def cntK (S : AS) (k : Nat) : AS := sLN S (fun s => if s < k then Nat.max (lQ S s) (qu S s).length else lQ S s)
theorem cntK_0 {S : AS} : cntK S 0 = S := rfl
theorem cntK_step {S : AS} {k : Nat} : sLN (cntK S k) (fset (lQ (cntK S k)) k (Nat.max (lQ S k) (qu S k).length)) = cntK S (k + 1) := by
  unfold cntK sLN
  congr 8
  funext j
  simp only [fset]
  by_cases e : j = k
  · simp [e]
  · have : (j < k + 1) ↔ (j < k) := by omega
    simp [e, this]
theorem cntK_no {S : AS} {k : Nat} (h : (qu S k).length ≤ lQ S k) : cntK S (k + 1) = cntK S k := by
  rw [← cntK_step]
  have : Nat.max (lQ S k) (qu S k).length = lQ S k := Nat.max_eq_left h
  rw [this]
  have e : fset (lQ (cntK S k)) k (lQ S k) = lQ (cntK S k) := by
    funext j
    simp only [fset]
    split
    · rename_i e; subst e; show lQ S _ = if _ < _ then _ else lQ S _; rw [if_neg (by omega)]
    · rfl
  rw [e]
  rfl
set_option maxHeartbeats 4000000 in
set_option maxRecDepth 100000 in
theorem con_X2_counts {l : Launch} {G : YG} {σ : AH} {a : Nat} {ad : Nat → Nat} {M : MS} {S : AS} (hM : MAt σ a ad M) (hG : GR (M.1 0) S) (hC : nC S ≤ 24) (hL : ∀ s, s < 8 → (qu S s).length ≤ 8) (hq : ∀ s, s < 8 → lQ S s ≤ 8) : Con l yX2_counts cX2_counts 2 none G 1 0 0 [.ref a] σ (PV fun τ => GP a ad σ M (cnts S) τ) := by
  refine con_of (by decide) (Nat.le_of_ble_eq_true rfl) ?_
  refine x_locs (L' := [(0, .ref a)]) [0] rfl ?_
  refine x_iconst (v := nI 0) dX2_counts_0 (by decide) ?_
  refine x_istore_n (i := 1) (L' := [(1, .int (nI 0)), (0, .ref a)]) dX2_counts_1 rfl (by decide) rfl ?_
  refine x_locs (L' := [(0, .ref a), (1, .int (nI 0))]) [1, 0] rfl ?_
  suffices loop : ∀ (d k : Nat) (τ : AH) (N : MS), k + d = 8 → GR (N.1 0) (cntK S k) → MAt τ a ad N → MF a ad σ τ → M0 M N → X l yX2_counts cX2_counts 2 none [] G (yroom 1 0 0) (yEnd G (yroom 1 0 0) (PV fun τ => GP a ad σ M (cnts S) τ)) 2 [(0, .ref a), (1, .int (nI k))] [] τ 0 0 from loop 8 0 σ M rfl hG hM MF.rf M0.rf
  intro d
  induction d with
  | zero =>
    intro k τ N hk hGN hN hFN h0N
    have hk8 : k = 8 := by omega
    subst hk8
    refine x_iload_n dX2_counts_2 1 rfl rfl ?_
    refine x_bipush (v := nI 8) dX2_counts_3 (by decide) ?_
    refine x_icmp_ge (tgt := 41) dX2_counts_5 (by decide) (fun _ => ?_) (fun h_ => absurd (by decide) h_)
    exact x_vret dX2_counts_41 rfl (⟨rfl, N, hN, hFN, h0N, hGN⟩)
  | succ d ih =>
    intro k τ N hk hGN hN hFN h0N
    have hs : k < 8 := by omega
    have h8 := hL k hs
    have hq8 := hq k hs
    have hmost : N.1 0 (341 + 11 * k + 1) = nI (lQ S k) := (hGN.2.2.2.2.1 k hs).2.1.trans (by show nI (if k < k then _ else _) = _; rw [if_neg (by omega)])
    refine x_iload_n dX2_counts_2 1 rfl rfl ?_
    refine x_bipush (v := nI 8) dX2_counts_3 (by decide) ?_
    refine x_icmp_ge (tgt := 41) dX2_counts_5 (by decide) (fun h_ => absurd h_ (fun h => absurd (nLe (by omega) (by omega) h) (by omega))) (fun _ => ?_)
    refine x_aload_n dX2_counts_8 0 rfl rfl ?_
    refine x_iload_n dX2_counts_9 1 rfl rfl ?_
    refine x_iconst (v := nI 2) dX2_counts_10 (by decide) ?_
    refine x_callV dX2_counts_11 (con_X2_shelf hN (s := k) (w := 2) hs (by decide)) (lw_V q1989 q1991 qs49 q101 q1992) (np := 2) (by decide +kernel) rfl (rcv_of vC_2 hN.1) ⟨Nat.le_of_ble_eq_true rfl, Nat.le_of_ble_eq_true rfl⟩ (Nat.le_of_ble_eq_true rfl) rfl (by decide) (by decide) (rS ?_) nI'
    refine x_top (x' := nI (qu S k).length) ((hGN.2.2.2.2.1 k hs).2.2) ?_
    refine x_aload_n dX2_counts_14 0 rfl rfl ?_
    refine x_iload_n dX2_counts_15 1 rfl rfl ?_
    refine x_iconst (v := nI 1) dX2_counts_16 (by decide) ?_
    refine x_callV dX2_counts_17 (con_X2_shelf hN (s := k) (w := 1) hs (by decide)) (lw_V q1989 q1991 qs49 q101 q1992) (np := 2) (by decide +kernel) rfl (rcv_of vC_2 hN.1) ⟨Nat.le_of_ble_eq_true rfl, Nat.le_of_ble_eq_true rfl⟩ (Nat.le_of_ble_eq_true rfl) rfl (by decide) (by decide) (rS ?_) nI'
    refine x_top (x' := nI (lQ S k)) (hmost) ?_
    refine x_icmp_le (tgt := 35) dX2_counts_20 (by decide) (fun c1 => ?_) (fun c1 => ?_)
    · have c1 := nLe (by omega) (by omega) c1
      refine x_iinc (i := 1) (q := 1) (v := nI (k + 1)) (L' := [(1, .int (nI (k + 1))), (0, .ref a)]) dX2_counts_35 rfl (nI_1 _) (by decide) rfl ?_
      refine x_goto (tgt := 2) dX2_counts_38 (by decide) ?_
      refine x_locs (L' := [(0, .ref a), (1, .int (nI (k + 1)))]) [1, 0] rfl ?_
      exact ih (k + 1) τ N (by omega) (by rw [cntK_no c1]; exact hGN) hN hFN h0N
    · have c1 := nNle (by omega) (by omega) c1
      have hmx : Nat.max (lQ S k) (qu S k).length = (qu S k).length := Nat.max_eq_right (by omega)
      refine x_aload_n dX2_counts_23 0 rfl rfl ?_
      refine x_iload_n dX2_counts_24 1 rfl rfl ?_
      refine x_iconst (v := nI 1) dX2_counts_25 (by decide) ?_
      refine x_aload_n dX2_counts_26 0 rfl rfl ?_
      refine x_iload_n dX2_counts_27 1 rfl rfl ?_
      refine x_iconst (v := nI 2) dX2_counts_28 (by decide) ?_
      refine x_callV dX2_counts_29 (con_X2_shelf hN (s := k) (w := 2) hs (by decide)) (lw_V q1989 q1991 qs49 q101 q1992) (np := 2) (by decide +kernel) rfl (rcv_of vC_2 hN.1) ⟨Nat.le_of_ble_eq_true rfl, Nat.le_of_ble_eq_true rfl⟩ (Nat.le_of_ble_eq_true rfl) rfl (by decide) (by decide) (rS ?_) nI'
      refine x_top (x' := nI (qu S k).length) ((hGN.2.2.2.2.1 k hs).2.2) ?_
      refine x_callV dX2_counts_32 (con_X2_shelves hN (s := k) (w := 1) (v := nI (qu S k).length) hs (by decide)) (lw_V q2005 q2007 qs53 q101 q2008) (np := 3) (by decide +kernel) rfl (rcv_of vC_2 hN.1) ⟨Nat.le_of_ble_eq_true rfl, Nat.le_of_ble_eq_true rfl⟩ (Nat.le_of_ble_eq_true rfl) rfl (by decide) (by decide) (rV fun σ5 h4 => ?_) nV'
      obtain ⟨M7, hAM7, hFM7, h0M7, hGM7⟩ : GP a ad σ M (cntK S (k + 1)) σ5 := GP.g1 (j := 341 + 11 * k + 1) (v := nI (qu S k).length) hFN h0N h4 (by rw [← cntK_step, hmx]; exact GR.sLQ (S := cntK S k) hGN hC hL hs)
      refine x_iinc (i := 1) (q := 1) (v := nI (k + 1)) (L' := [(1, .int (nI (k + 1))), (0, .ref a)]) dX2_counts_35 rfl (nI_1 _) (by decide) rfl ?_
      refine x_goto (tgt := 2) dX2_counts_38 (by decide) ?_
      refine x_locs (L' := [(0, .ref a), (1, .int (nI (k + 1)))]) [1, 0] rfl ?_
      exact ih (k + 1) _ M7 (by omega) hGM7 hAM7 hFM7 h0M7
set_option maxHeartbeats 4000000 in
set_option maxRecDepth 100000 in
theorem con_X2_copies {l : Launch} {G : YG} {σ : AH} {p q N1 N2 at_ on : Nat} {f g : Nat → Int32} (hp : σ p = some (.inl (0, N1, .inl f))) (hq : σ q = some (.inl (0, N2, .inl g))) (hne : p ≠ q) (h1 : at_ + 429 ≤ N1) (h2 : on + 429 ≤ N2) (hN1 : N1 < 2 ^ 26) (hN2 : N2 < 2 ^ 26) : Con l yX2_copies cX2_copies 5 none G 0 0 0 [.ref p, .int (nI at_), .ref q, .int (nI on)] σ (PV fun τ => τ q = some (.inl (0, N2, .inl (va_cpy f g at_ on 429))) ∧ ∀ x, x ≠ q → τ x = σ x) := by
  refine con_of (by decide) (Nat.le_of_ble_eq_true rfl) ?_
  refine x_locs (L' := [(0, .ref p), (1, .int (nI at_)), (2, .ref q), (3, .int (nI on))]) [0, 1, 2, 3] rfl ?_
  refine x_iconst (v := nI 0) dX2_copies_0 (by decide) ?_
  refine x_istore (i := 4) (L' := [(4, .int (nI 0)), (0, .ref p), (1, .int (nI at_)), (2, .ref q), (3, .int (nI on))]) dX2_copies_1 (by decide) rfl ?_
  refine x_locs (L' := [(0, .ref p), (1, .int (nI at_)), (2, .ref q), (3, .int (nI on)), (4, .int (nI 0))]) [1, 2, 3, 4, 0] rfl ?_
  suffices loop : ∀ (d k : Nat) (τ : AH), k + d = 429 → τ q = some (.inl (0, N2, .inl (va_cpy f g at_ on k))) → (∀ x, x ≠ q → τ x = σ x) → X l yX2_copies cX2_copies 5 none [] G (yroom 0 0 0) (yEnd G (yroom 0 0 0) (PV fun τ => τ q = some (.inl (0, N2, .inl (va_cpy f g at_ on 429))) ∧ ∀ x, x ≠ q → τ x = σ x)) 3 [(0, .ref p), (1, .int (nI at_)), (2, .ref q), (3, .int (nI on)), (4, .int (nI k))] [] τ 0 0 from loop 429 0 σ rfl (by rw [cpy_0]; exact hq) (fun _ _ => rfl)
  intro d
  induction d with
  | zero =>
    intro k τ hk hτ hfr
    have hk8 : k = 429 := by omega
    subst hk8
    refine x_iload dX2_copies_3 4 rfl ?_
    refine x_sipush (v := nI 429) dX2_copies_5 (by decide) ?_
    refine x_icmp_ge (tgt := 29) dX2_copies_8 (by decide) (fun _ => ?_) (fun h_ => absurd (by decide) h_)
    exact x_vret dX2_copies_29 rfl (⟨rfl, hτ, hfr⟩)
  | succ d ih =>
    intro k τ hk hτ hfr
    have hp' : τ p = some (.inl (0, N1, .inl f)) := by rw [hfr p hne]; exact hp
    refine x_iload dX2_copies_3 4 rfl ?_
    refine x_sipush (v := nI 429) dX2_copies_5 (by decide) ?_
    refine x_icmp_ge (tgt := 29) dX2_copies_8 (by decide) (fun h_ => absurd h_ (fun h => absurd (nLe (by omega) (by omega) h) (by omega))) (fun _ => ?_)
    refine x_aload_n dX2_copies_11 2 rfl rfl ?_
    refine x_iload_n dX2_copies_12 3 rfl rfl ?_
    refine x_iload dX2_copies_13 4 rfl ?_
    refine x_iadd dX2_copies_15 ?_
    refine x_top (x' := nI (on + k)) (nI_add _ _) ?_
    refine x_aload_n dX2_copies_16 0 rfl rfl ?_
    refine x_iload_n dX2_copies_17 1 rfl rfl ?_
    refine x_iload dX2_copies_18 4 rfl ?_
    refine x_iadd dX2_copies_20 ?_
    refine x_top (x' := nI (at_ + k)) (nI_add _ _) ?_
    refine x_iald (N := N1) (j := at_ + k) (v := f (at_ + k)) dX2_copies_21 hp' (rfl) (by omega) (by omega) (rfl) ?_
    refine x_iast (N := N2) (j := on + k) (w := f (at_ + k)) dX2_copies_22 hτ rfl (by omega) (by omega) (fun τ2 g1 g2 => ?_)
    refine x_iinc (i := 4) (q := 4) (v := nI (k + 1)) (L' := [(4, .int (nI (k + 1))), (0, .ref p), (1, .int (nI at_)), (2, .ref q), (3, .int (nI on))]) dX2_copies_23 rfl (nI_1 _) (by decide) rfl ?_
    refine x_goto (tgt := 3) dX2_copies_26 (by decide) ?_
    refine x_locs (L' := [(0, .ref p), (1, .int (nI at_)), (2, .ref q), (3, .int (nI on)), (4, .int (nI (k + 1)))]) [1, 2, 3, 4, 0] rfl ?_
    exact ih (k + 1) τ2 (by omega) (by rw [← cpy_step]; exact g1) (fun x hx => (g2 x hx).trans (hfr x hx))
set_option maxHeartbeats 4000000 in
set_option maxRecDepth 100000 in
theorem con_X2_refuses {l : Launch} {G : YG} {σ : AH} {a : Nat} {ad : Nat → Nat} {M : MS} {r d : Int32} (hM : MAt σ a ad M)  : Con l yX2_refuses cX2_refuses 3 (some FieldType.int) G 0 0 0 [.ref a, .int r, .int d] σ (PI fun z τ => z = -14 ∧ MAt τ a ad (mS (mS M 8 r) 9 d) ∧ MF a ad σ τ) := by
  refine con_of (by decide) (Nat.le_of_ble_eq_true rfl) ?_
  refine x_locs (L' := [(0, .ref a), (1, .int r), (2, .int d)]) [0, 1, 2] rfl ?_
  refine x_aload_n dX2_refuses_0 0 rfl rfl ?_
  refine x_iload_n dX2_refuses_1 1 rfl rfl ?_
  refine x_put (fs' := mFs ad (mS M 8 (r))) dX2_refuses_2 vC_2 in_X2 tyX2_ok nmX2 hM.1 8 (by decide) q1884 rfl rfl (rfl) (rfl) (Nat.le_of_ble_eq_true rfl) rfl (fun σ1 h2 h3 => ?_)
  obtain ⟨hAM4, hBM4⟩ := hM.fld (k := 8) (v := r) h2 h3
  refine x_aload_n dX2_refuses_5 0 rfl rfl ?_
  refine x_iload_n dX2_refuses_6 2 rfl rfl ?_
  refine x_put (fs' := mFs ad (mS (mS M 8 (r)) 9 (d))) dX2_refuses_7 vC_2 in_X2 tyX2_ok nmX2 hAM4.1 9 (by decide) q1885 rfl rfl (rfl) (rfl) (Nat.le_of_ble_eq_true rfl) rfl (fun σ5 h6 h7 => ?_)
  obtain ⟨hAM8, hBM8⟩ := hAM4.fld (k := 9) (v := d) h6 h7
  refine x_bipush (v := (-14)) dX2_refuses_10 (by decide) ?_
  exact x_iret dX2_refuses_12 rfl (⟨_, rfl, rfl, hAM8, (MF.tr (MF.tr MF.rf hBM4) hBM8)⟩)
set_option maxHeartbeats 4000000 in
set_option maxRecDepth 100000 in
theorem con_X2_isMaid {l : Launch} {G : YG} {σ : AH} {a : Nat} {ad : Nat → Nat} {M : MS} {S : AS} {v : Int32} (hM : MAt σ a ad M) (hG : GR (M.1 0) S) (hI : IV S) : Con l yX2_isMaid cX2_isMaid 2 (some FieldType.boolean) G 1 0 0 [.ref a, .int v] σ (PS σ (bI (isT S v))) := by
  refine con_of (by decide) (Nat.le_of_ble_eq_true rfl) ?_
  refine x_locs (L' := [(0, .ref a), (1, .int v)]) [0, 1] rfl ?_
  have hC := hI.c
  refine x_iload_n dX2_isMaid_0 1 rfl rfl ?_
  refine x_iconst (v := nI 0) dX2_isMaid_1 (by decide) ?_
  refine x_aload_n dX2_isMaid_2 0 rfl rfl ?_
  refine x_get dX2_isMaid_3 vC_2 in_X2 hM.1 0 (by decide) q1876 rfl ?_
  refine x_iconst (v := nI 0) dX2_isMaid_6 (by decide) ?_
  refine x_iald (N := 429) (j := 0) (v := nI (nC S)) dX2_isMaid_7 (hM.2.1 0 rfl) (rfl) (by decide) (by decide) (hG.c) ?_
  refine x_iconst (v := nI 1) dX2_isMaid_8 (by decide) ?_
  refine x_isub dX2_isMaid_9 ?_
  refine x_callS dX2_isMaid_10 (con_X2_in (v := v) (lo := 0) (hi := nI (nC S) - nI 1)) (lw_S q1963 q1964 q101 q1965) (np := 3) (by decide +kernel) rfl ⟨Nat.le_of_ble_eq_true rfl, Nat.le_of_ble_eq_true rfl⟩ (Nat.le_of_ble_eq_true rfl) rfl (by decide) (by decide) (rS ?_) nI'
  refine x_top (x' := bI (decide (0 ≤ v) && decide (v < nI (nC S)))) (by rw [le_pred (by omega)]) ?_
  refine x_if_eq (tgt := 30) dX2_isMaid_13 (by decide) (fun c1 => ?_) (fun c1 => ?_)
  · have c1 := bI_0 c1
    refine x_iconst (v := nI 0) dX2_isMaid_30 (by decide) ?_
    exact x_zret dX2_isMaid_31 rfl (rfl) (pS' (by unfold isT; rw [c1]; rfl))
  · have c1 := bI_1 c1
    have c1' := c1
    simp only [Bool.and_eq_true, decide_eq_true_eq] at c1'
    obtain ⟨j, hj, hv, hvn⟩ := i32_of c1'.1 c1'.2 (by omega)
    subst hv
    refine x_aload_n dX2_isMaid_16 0 rfl rfl ?_
    refine x_iload_n dX2_isMaid_17 1 rfl rfl ?_
    refine x_iconst (v := nI 0) dX2_isMaid_18 (by decide) ?_
    refine x_callV dX2_isMaid_19 (con_X2_of hM (m := j) (w := 0) (by omega) (by decide)) (lw_V q1966 q1968 qs44 q101 q1969) (np := 2) (by decide +kernel) rfl (rcv_of vC_2 hM.1) ⟨Nat.le_of_ble_eq_true rfl, Nat.le_of_ble_eq_true rfl⟩ (Nat.le_of_ble_eq_true rfl) rfl (by decide) (by decide) (rS ?_) nI'
    refine x_top (x' := bI (tH S j)) ((hG.2.1 j (by omega)).1) ?_
    refine x_iconst (v := nI 1) dX2_isMaid_22 (by decide) ?_
    refine x_icmp_ne (tgt := 30) dX2_isMaid_23 (by decide) (fun c2 => ?_) (fun c2 => ?_)
    · have hres : isT S (nI j) = false := by
        unfold isT; rw [c1, hvn]
        cases hh : tH S j
        · rw [hh] at c2; first | rfl | exact absurd c2 (by decide)
        · rw [hh] at c2; first | rfl | exact absurd c2 (by decide) | exact absurd rfl c2
      refine x_iconst (v := nI 0) dX2_isMaid_30 (by decide) ?_
      exact x_zret dX2_isMaid_31 rfl (rfl) (pS' (by rw [hres]; rfl))
    · have hres : isT S (nI j) = true := by
        unfold isT; rw [c1, hvn]
        cases hh : tH S j
        · rw [hh] at c2; first | rfl | exact absurd c2 (by decide)
        · rw [hh] at c2; first | rfl | exact absurd c2 (by decide) | exact absurd rfl c2
      refine x_iconst (v := nI 1) dX2_isMaid_26 (by decide) ?_
      refine x_goto (tgt := 31) dX2_isMaid_27 (by decide) ?_
      exact x_zret dX2_isMaid_31 rfl (rfl) (pS' (by rw [hres]; rfl))
