set_option maxRecDepth 100000
theorem clr_step {S : AS} {m k : Nat} : sHw (sHw S (fset (hw S) m (fun s => if s < k then 0 else hw S m s))) (fset (hw (sHw S (fset (hw S) m (fun s => if s < k then 0 else hw S m s)))) m (fset (hw (sHw S (fset (hw S) m (fun s => if s < k then 0 else hw S m s))) m) k 0)) = sHw S (fset (hw S) m (fun s => if s < k + 1 then 0 else hw S m s)) := by
  unfold sHw
  congr 2
  congr 1
  funext i j
  show fset (fset (hw S) m _) m (fset (fset (hw S) m _ m) k 0) i j = fset (hw S) m _ i j
  simp only [fset]
  by_cases e : i = m
  · by_cases e2 : j = k
    · simp [fset, e, e2]
    · have : (j < k + 1) ↔ (j < k) := by omega
      simp [fset, e, e2, this]
  · simp [fset, e]
theorem clr_0 {S : AS} {m : Nat} : sHw S (fset (hw S) m (fun s => if s < 0 then 0 else hw S m s)) = S := by
  have : fset (hw S) m (fun s => if s < 0 then 0 else hw S m s) = hw S := by
    funext i
    by_cases e : i = m
    · subst e; rw [fset_s]; funext j; simp
    · rw [fset_n e]
  rw [this]; rfl
set_option maxHeartbeats 4000000 in
set_option maxRecDepth 100000 in
theorem con_X2_letsAll {l : Launch} {G : YG} {σ : AH} {a : Nat} {ad : Nat → Nat} {M : MS} {S : AS} {m : Nat} (hM : MAt σ a ad M) (hG : GR (M.1 0) S) (hI : IV S) (hm : m < nC S) : Con l yX2_letsAll cX2_letsAll 6 (some FieldType.int) G 3 0 0 [.ref a, .int (nI m)] σ (PI fun z τ => z = nI (letAll S m).2 ∧ GP a ad σ M (letAll S m).1 τ) := by
  refine con_of (by decide) (Nat.le_of_ble_eq_true rfl) ?_
  refine x_locs (L' := [(0, .ref a), (1, .int (nI m))]) [0, 1] rfl ?_
  have hC := hI.c
  have hm24 : m < 24 := by omega
  have hI1 := hI.iNoMore (m := m)
  have hL1 : ∀ s, s < 8 → (qu (noMore S m) s).length ≤ 8 := fun s hs => hI1.len hs
  have hat1 := noMore_self hI.uq (m := m)
  obtain ⟨A, hA⟩ : ∃ A, A = aAt S m := ⟨_, rfl⟩
  obtain ⟨hd, hhd⟩ : ∃ hd : Nat → Bool, hd = fun k => !(hw (noMore S m) m k == 0) := ⟨_, rfl⟩
  obtain ⟨r0, hr0⟩ : ∃ r0 : AS × Nat, r0 = (match aAt S m with
    | none => (clearHw (noMore S m) m, 0)
    | some s => serve (clearHw (noMore S m) m) s) := ⟨_, rfl⟩
  have hlet : letAll S m = serveUp hd r0 8 := by unfold letAll; rw [hr0, hhd]; rfl
  have hI2 : IV (clearHw (noMore S m) m) := hI1.clear hat1
  have hI3 : IV r0.1 := by
    rw [hr0]
    cases ha : aAt S m with
    | none => exact hI2
    | some s => exact hI2.iServe (aAt_some ha).1
  refine x_aload_n dX2_letsAll_0 0 rfl rfl ?_
  refine x_iload_n dX2_letsAll_1 1 rfl rfl ?_
  refine x_iconst (v := nI 1) dX2_letsAll_2 (by decide) ?_
  refine x_callV dX2_letsAll_3 (con_X2_of hM (m := m) (w := 1) hm24 (by decide)) (lw_V q1966 q1968 qs44 q101 q1969) (np := 2) (by decide +kernel) rfl (rcv_of vC_2 hM.1) ⟨Nat.le_of_ble_eq_true rfl, Nat.le_of_ble_eq_true rfl⟩ (Nat.le_of_ble_eq_true rfl) rfl (by decide) (by decide) (rS ?_) nI'
  refine x_top (x' := atI S m) ((hG.2.2.1 m hm).1) ?_
  refine x_istore_n (i := 2) (L' := [(2, .int (atI S m)), (0, .ref a), (1, .int (nI m))]) dX2_letsAll_6 rfl (by decide) rfl ?_
  refine x_iconst (v := nI 0) dX2_letsAll_7 (by decide) ?_
  refine x_istore_n (i := 3) (L' := [(3, .int (nI 0)), (2, .int (atI S m)), (0, .ref a), (1, .int (nI m))]) dX2_letsAll_8 rfl (by decide) rfl ?_
  refine x_iload_n dX2_letsAll_9 1 rfl rfl ?_
  have last : ∀ (d k : Nat) (had : Int32) (τ : AH) (N : MS), k + d = 8 → BS had (fun i => decide (i < 8) && hd i) → GR (N.1 0) (serveUp hd r0 k).1 → MAt τ a ad N → MF a ad σ τ → M0 M N → X l yX2_letsAll cX2_letsAll 6 (some FieldType.int) [] G (yroom 3 0 0) (yEnd G (yroom 3 0 0) (PI fun z τ => z = nI (letAll S m).2 ∧ GP a ad σ M (letAll S m).1 τ)) 81 [(0, .ref a), (1, .int (nI m)), (2, .int (atI S m)), (3, .int had), (4, .int (nI (serveUp hd r0 k).2)), (5, .int (nI k))] [] τ 0 0 := by
    intro d
    induction d with
    | zero =>
      intro k had τ N hk hb hGN hN hFN h0N
      have hk8 : k = 8 := by omega
      subst hk8
      refine x_iload dX2_letsAll_81 5 rfl ?_
      refine x_bipush (v := nI 8) dX2_letsAll_83 (by decide) ?_
      refine x_icmp_ge (tgt := 115) dX2_letsAll_85 (by decide) (fun _ => ?_) (fun h_ => absurd (by decide) h_)
      refine x_iload dX2_letsAll_115 4 rfl ?_
      exact x_iret dX2_letsAll_117 rfl (⟨_, rfl, by rw [hlet], N, hN, hFN, h0N, by rw [hlet]; exact hGN⟩)
    | succ d ih =>
      intro k had τ N hk hb hGN hN hFN h0N
      have hIk := IV.iServeUp (hd := hd) hI3 k (by omega)
      have hbit : (had >>> (nI k &&& 31)) &&& nI 1 = bI (hd k) := (hb.bit (show k < 24 by omega)).trans (show bI (decide (k < 8) && hd k) = bI (hd k) by rw [decide_eq_true (show k < 8 by omega), Bool.true_and])
      refine x_iload dX2_letsAll_81 5 rfl ?_
      refine x_bipush (v := nI 8) dX2_letsAll_83 (by decide) ?_
      refine x_icmp_ge (tgt := 115) dX2_letsAll_85 (by decide) (fun h_ => absurd h_ (fun h => absurd (nLe (by omega) (by omega) h) (by omega))) (fun _ => ?_)
      refine x_iload_n dX2_letsAll_88 3 rfl rfl ?_
      refine x_iload dX2_letsAll_89 5 rfl ?_
      refine x_ishr dX2_letsAll_91 ?_
      refine x_iconst (v := nI 1) dX2_letsAll_92 (by decide) ?_
      refine x_iand dX2_letsAll_93 ?_
      refine x_iconst (v := nI 1) dX2_letsAll_94 (by decide) ?_
      refine x_icmp_ne (tgt := 109) dX2_letsAll_95 (by decide) (fun c1 => ?_) (fun c1 => ?_)
      · have hh : hd k = false := by
          cases h : hd k with
          | false => rfl
          | true => rw [hbit, h] at c1; exact absurd rfl c1
        have hsu : serveUp hd r0 (k + 1) = serveUp hd r0 k := by
          conv => lhs; unfold serveUp
          rw [if_neg (by rw [hh]; exact fun z => by cases z)]
        refine x_iinc (i := 5) (q := 5) (v := nI (k + 1)) (L' := [(5, .int (nI (k + 1))), (0, .ref a), (1, .int (nI m)), (2, .int (atI S m)), (3, .int had), (4, .int (nI (serveUp hd r0 k).2))]) dX2_letsAll_109 rfl (nI_1 _) (by decide) rfl ?_
        refine x_goto (tgt := 81) dX2_letsAll_112 (by decide) ?_
        refine x_locs (L' := [(0, .ref a), (1, .int (nI m)), (2, .int (atI S m)), (3, .int had), (4, .int (nI (serveUp hd r0 k).2)), (5, .int (nI (k + 1)))]) [1, 2, 3, 4, 5, 0] rfl ?_
        have := ih (k + 1) had τ N (by omega) hb (by rw [hsu]; exact hGN) hN hFN h0N
        rw [hsu] at this
        exact this
      · have hh : hd k = true := by
          cases h : hd k with
          | true => rfl
          | false => rw [hbit, h] at c1; exact absurd c1 (by decide)
        have hsu : serveUp hd r0 (k + 1) = ((serve (serveUp hd r0 k).1 k).1, (serveUp hd r0 k).2 + (serve (serveUp hd r0 k).1 k).2) := by
          conv => lhs; unfold serveUp
          rw [if_pos hh]
        refine x_iload dX2_letsAll_98 4 rfl ?_
        refine x_aload_n dX2_letsAll_100 0 rfl rfl ?_
        refine x_iload dX2_letsAll_101 5 rfl ?_
        refine x_callV dX2_letsAll_103 (con_X2_gives hN hGN hIk (s := k) (by omega)) (lw_V q2041 q2043 qs62 q101 q2044) (np := 1) (by decide +kernel) rfl (rcv_of vC_2 hN.1) ⟨Nat.le_of_ble_eq_true rfl, Nat.le_of_ble_eq_true rfl⟩ (Nat.le_of_ble_eq_true rfl) rfl (by decide) (by decide) (rI fun r4 σ3 h2 => ?_) nI'
        obtain ⟨M5, hAM5, hFM5, h0M5, hGM5⟩ : GP a ad σ M ((serve (serveUp hd r0 k).1 k).1) σ3 := GP.tr hFN h0N h2.2
        refine x_top (x' := nI (serve (serveUp hd r0 k).1 k).2) (h2.1) ?_
        refine x_iadd dX2_letsAll_106 ?_
        refine x_top (x' := nI ((serveUp hd r0 k).2 + ((serve (serveUp hd r0 k).1 k).2))) (nI_add _ _) ?_
        refine x_istore (i := 4) (L' := [(4, .int (nI ((serveUp hd r0 k).2 + ((serve (serveUp hd r0 k).1 k).2)))), (0, .ref a), (1, .int (nI m)), (2, .int (atI S m)), (3, .int had), (5, .int (nI k))]) dX2_letsAll_107 (by decide) rfl ?_
        refine x_iinc (i := 5) (q := 5) (v := nI (k + 1)) (L' := [(5, .int (nI (k + 1))), (4, .int (nI ((serveUp hd r0 k).2 + ((serve (serveUp hd r0 k).1 k).2)))), (0, .ref a), (1, .int (nI m)), (2, .int (atI S m)), (3, .int had)]) dX2_letsAll_109 rfl (nI_1 _) (by decide) rfl ?_
        refine x_goto (tgt := 81) dX2_letsAll_112 (by decide) ?_
        refine x_locs (L' := [(0, .ref a), (1, .int (nI m)), (2, .int (atI S m)), (3, .int had), (4, .int (nI ((serveUp hd r0 k).2 + ((serve (serveUp hd r0 k).1 k).2)))), (5, .int (nI (k + 1)))]) [2, 3, 4, 5, 1, 0] rfl ?_
        have := ih (k + 1) had _ M5 (by omega) hb (by rw [hsu]; exact hGM5) hAM5 hFM5 h0M5
        rw [hsu] at this
        exact this
  have mid : ∀ (had : Int32) (τ : AH) (N : MS), BS had (fun i => decide (i < 8) && hd i) → GR (N.1 0) (clearHw (noMore S m) m) → MAt τ a ad N → MF a ad σ τ → M0 M N → X l yX2_letsAll cX2_letsAll 6 (some FieldType.int) [] G (yroom 3 0 0) (yEnd G (yroom 3 0 0) (PI fun z τ => z = nI (letAll S m).2 ∧ GP a ad σ M (letAll S m).1 τ)) 63 [(0, .ref a), (1, .int (nI m)), (2, .int (atI S m)), (3, .int had)] [] τ 0 0 := by
    intro had τ N hb hGN hN hFN h0N
    refine x_iload_n dX2_letsAll_63 2 rfl rfl ?_
    cases ha : aAt S m with
    | none =>
      rw [ha] at hr0
      have hati := atI_none ha
      refine x_if_lt (tgt := 75) dX2_letsAll_64 (by decide) (fun _ => ?_) (fun h_ => absurd (by rw [hati]; decide) h_)
      refine x_iconst (v := nI 0) dX2_letsAll_75 (by decide) ?_
      refine x_istore (i := 4) (L' := [(4, .int (nI 0)), (0, .ref a), (1, .int (nI m)), (2, .int (atI S m)), (3, .int had)]) dX2_letsAll_76 (by decide) rfl ?_
      refine x_iconst (v := nI 0) dX2_letsAll_78 (by decide) ?_
      refine x_istore (i := 5) (L' := [(5, .int (nI 0)), (4, .int (nI 0)), (0, .ref a), (1, .int (nI m)), (2, .int (atI S m)), (3, .int had)]) dX2_letsAll_79 (by decide) rfl ?_
      refine x_locs (L' := [(0, .ref a), (1, .int (nI m)), (2, .int (atI S m)), (3, .int had), (4, .int (nI 0)), (5, .int (nI 0))]) [2, 3, 4, 5, 1, 0] rfl ?_
      have := last 8 0 had τ N rfl hb (by rw [hr0]; exact hGN) hN hFN h0N
      rw [hr0] at this
      exact this
    | some s =>
      rw [ha] at hr0
      have hs := (aAt_some ha).1
      have hati := atI_some ha
      refine x_if_lt (tgt := 75) dX2_letsAll_64 (by decide) (fun h_ => absurd h_ (by rw [hati]; exact nI_pos (by omega))) (fun _ => ?_)
      refine x_aload_n dX2_letsAll_67 0 rfl rfl ?_
      refine x_iload_n dX2_letsAll_68 2 rfl rfl ?_
      rw [hati]
      refine x_callV dX2_letsAll_69 (con_X2_gives hN hGN hI2 (s := s) hs) (lw_V q2041 q2043 qs62 q101 q2044) (np := 1) (by decide +kernel) rfl (rcv_of vC_2 hN.1) ⟨Nat.le_of_ble_eq_true rfl, Nat.le_of_ble_eq_true rfl⟩ (Nat.le_of_ble_eq_true rfl) rfl (by decide) (by decide) (rI fun r8 σ7 h6 => ?_) nI'
      obtain ⟨M9, hAM9, hFM9, h0M9, hGM9⟩ : GP a ad σ M ((serve (clearHw (noMore S m) m) s).1) σ7 := GP.tr hFN h0N h6.2
      refine x_top (x' := nI (serve (clearHw (noMore S m) m) s).2) (h6.1) ?_
      refine x_goto (tgt := 76) dX2_letsAll_72 (by decide) ?_
      refine x_istore (i := 4) (L' := [(4, .int (nI (serve (clearHw (noMore S m) m) s).2)), (0, .ref a), (1, .int (nI m)), (2, .int (nI s)), (3, .int had)]) dX2_letsAll_76 (by decide) rfl ?_
      refine x_iconst (v := nI 0) dX2_letsAll_78 (by decide) ?_
      refine x_istore (i := 5) (L' := [(5, .int (nI 0)), (4, .int (nI (serve (clearHw (noMore S m) m) s).2)), (0, .ref a), (1, .int (nI m)), (2, .int (nI s)), (3, .int had)]) dX2_letsAll_79 (by decide) rfl ?_
      refine x_locs (L' := [(0, .ref a), (1, .int (nI m)), (2, .int (nI s)), (3, .int had), (4, .int (nI (serve (clearHw (noMore S m) m) s).2)), (5, .int (nI 0))]) [2, 3, 4, 5, 1, 0] rfl ?_
      have := last 8 0 had _ M9 rfl hb (by rw [hr0]; exact hGM9) hAM9 hFM9 h0M9
      rw [hr0, hati] at this
      exact this
  have first : ∀ (d k : Nat) (had : Int32) (τ : AH) (N : MS), k + d = 8 → BS had (fun i => decide (i < k) && hd i) → GR (N.1 0) (sHw (noMore S m) (fset (hw (noMore S m)) m (fun s => if s < k then 0 else hw (noMore S m) m s))) → MAt τ a ad N → MF a ad σ τ → M0 M N → X l yX2_letsAll cX2_letsAll 6 (some FieldType.int) [] G (yroom 3 0 0) (yEnd G (yroom 3 0 0) (PI fun z τ => z = nI (letAll S m).2 ∧ GP a ad σ M (letAll S m).1 τ)) 21 [(0, .ref a), (1, .int (nI m)), (2, .int (atI S m)), (3, .int had), (4, .int (nI k))] [] τ 0 0 := by
    intro d
    induction d with
    | zero =>
      intro k had τ N hk hb hGN hN hFN h0N
      have hk8 : k = 8 := by omega
      subst hk8
      refine x_iload dX2_letsAll_21 4 rfl ?_
      refine x_bipush (v := nI 8) dX2_letsAll_23 (by decide) ?_
      refine x_icmp_ge (tgt := 63) dX2_letsAll_25 (by decide) (fun _ => ?_) (fun h_ => absurd (by decide) h_)
      refine x_locs (L' := [(0, .ref a), (1, .int (nI m)), (2, .int (atI S m)), (3, .int had)]) [0, 1, 2, 3] rfl ?_
      exact mid had τ N hb hGN hN hFN h0N
    | succ d ih =>
      intro k had τ N hk hb hGN hN hFN h0N
      have hIv := hI1.hwm (m := m) (f := fun s => if s < k then 0 else hw (noMore S m) m s) (fun s => by split; omega; exact hI1.2.2.1 _ _) (fun s h => by split at h; exact absurd rfl h; exact hI1.2.2.2.1 _ _ h) (fun s hs _ => aAt_none.mp hat1 s hs)
      have h2 := hI1.2.2.1 m k
      have hlk : N.1 0 (149 + 8 * m + k) = nI (hw (noMore S m) m k) := (hGN.hwE hm24 (by omega)).trans (by
        show nI (fset (hw (noMore S m)) m _ m k) = _
        rw [fset_s, if_neg (by omega)])
      have step : ∀ had', BS had' (fun i => (decide (i < k) && hd i) || (hd k && i == k)) → X l yX2_letsAll cX2_letsAll 6 (some FieldType.int) [] G (yroom 3 0 0) (yEnd G (yroom 3 0 0) (PI fun z τ => z = nI (letAll S m).2 ∧ GP a ad σ M (letAll S m).1 τ)) 48 [(0, .ref a), (1, .int (nI m)), (2, .int (atI S m)), (3, .int had), (4, .int (nI k))] [.int had'] τ 0 0 := by
        intro had' hb'
        refine x_istore_n (i := 3) (L' := [(3, .int had'), (0, .ref a), (1, .int (nI m)), (2, .int (atI S m)), (4, .int (nI k))]) dX2_letsAll_48 rfl (by decide) rfl ?_
        refine x_aload_n dX2_letsAll_49 1 rfl rfl ?_
        refine x_iload_n dX2_letsAll_50 2 rfl rfl ?_
        refine x_iload dX2_letsAll_51 4 rfl ?_
        refine x_iconst (v := nI 0) dX2_letsAll_53 (by decide) ?_
        refine x_callV dX2_letsAll_54 (con_X2_locks hN (m := m) (s := k) (v := nI 0) hm24 (by omega)) (lw_V q2001 q2003 qs52 q101 q2004) (np := 3) (by decide +kernel) rfl (rcv_of vC_2 hN.1) ⟨Nat.le_of_ble_eq_true rfl, Nat.le_of_ble_eq_true rfl⟩ (Nat.le_of_ble_eq_true rfl) rfl (by decide) (by decide) (rV fun σ11 h10 => ?_) nV'
        obtain ⟨M13, hAM13, hFM13, h0M13, hGM13⟩ : GP a ad σ M (sHw (noMore S m) (fset (hw (noMore S m)) m (fun s => if s < k + 1 then 0 else hw (noMore S m) m s))) σ11 := GP.g1 (j := 149 + 8 * m + k) (v := nI 0) hFN h0N h10 (by rw [← clr_step]; exact GR.sHw (k := 0) hGN hIv.c (fun s hs => hIv.len hs) hm24 (by omega))
        refine x_iinc (i := 4) (q := 4) (v := nI (k + 1)) (L' := [(4, .int (nI (k + 1))), (3, .int had'), (0, .ref a), (1, .int (nI m)), (2, .int (atI S m))]) dX2_letsAll_57 rfl (nI_1 _) (by decide) rfl ?_
        refine x_goto (tgt := 21) dX2_letsAll_60 (by decide) ?_
        refine x_locs (L' := [(0, .ref a), (1, .int (nI m)), (2, .int (atI S m)), (3, .int had'), (4, .int (nI (k + 1)))]) [2, 3, 4, 1, 0] rfl ?_
        exact ih (k + 1) had' _ M13 (by omega) (hb'.to (fun i _ => by
          by_cases e : i = k
          · subst e; simp
          · have : (decide (i < k + 1)) = decide (i < k) := by
              by_cases q : i < k
              · simp [q]; omega
              · simp [q]; omega
            simp [e, this])) hGM13 hAM13 hFM13 h0M13
      refine x_iload dX2_letsAll_21 4 rfl ?_
      refine x_bipush (v := nI 8) dX2_letsAll_23 (by decide) ?_
      refine x_icmp_ge (tgt := 63) dX2_letsAll_25 (by decide) (fun h_ => absurd h_ (fun h => absurd (nLe (by omega) (by omega) h) (by omega))) (fun _ => ?_)
      refine x_iload_n dX2_letsAll_28 3 rfl rfl ?_
      refine x_aload_n dX2_letsAll_29 0 rfl rfl ?_
      refine x_iload_n dX2_letsAll_30 1 rfl rfl ?_
      refine x_iload dX2_letsAll_31 4 rfl ?_
      refine x_callV dX2_letsAll_33 (con_X2_lock hN (m := m) (s := k) hm24 (by omega)) (lw_V q1977 q1979 qs46 q101 q1980) (np := 2) (by decide +kernel) rfl (rcv_of vC_2 hN.1) ⟨Nat.le_of_ble_eq_true rfl, Nat.le_of_ble_eq_true rfl⟩ (Nat.le_of_ble_eq_true rfl) rfl (by decide) (by decide) (rS ?_) nI'
      refine x_top (x' := nI (hw (noMore S m) m k)) (hlk) ?_
      refine x_if_le (tgt := 46) dX2_letsAll_36 (by decide) (fun c1 => ?_) (fun c1 => ?_)
      · have c1 : hw (noMore S m) m k = 0 := by have := nLe (a := hw (noMore S m) m k) (b := 0) (by omega) (by omega) (by rw [nI_0]; exact c1); omega
        refine x_iconst (v := nI 0) dX2_letsAll_46 (by decide) ?_
        refine x_ior dX2_letsAll_47 ?_
        exact step _ ((hb.or BS.zero).to (fun j _ => by
          have hf : hd k = false := by rw [hhd]; simp [c1]
          rw [hf]; simp))
      · have c1 : hw (noMore S m) m k ≠ 0 := fun z => c1 (by rw [z]; decide)
        refine x_iconst (v := nI 1) dX2_letsAll_39 (by decide) ?_
        refine x_iload dX2_letsAll_40 4 rfl ?_
        refine x_ishl dX2_letsAll_42 ?_
        refine x_goto (tgt := 47) dX2_letsAll_43 (by decide) ?_
        refine x_ior dX2_letsAll_47 ?_
        exact step _ ((hb.or (BS.one (show k < 24 by omega))).to (fun j _ => by
          have hf : hd k = true := by rw [hhd]; simp [c1]
          rw [hf]; simp))
  cases ha : aAt S m with
  | none =>
    have hati := atI_none ha
    have hnm := noMore_none ha
    refine x_if_lt (tgt := 18) dX2_letsAll_10 (by decide) (fun _ => ?_) (fun h_ => absurd (by rw [hati]; decide) h_)
    refine x_iconst (v := nI 0) dX2_letsAll_18 (by decide) ?_
    refine x_istore (i := 4) (L' := [(4, .int (nI 0)), (3, .int (nI 0)), (2, .int (atI S m)), (0, .ref a), (1, .int (nI m))]) dX2_letsAll_19 (by decide) rfl ?_
    refine x_locs (L' := [(0, .ref a), (1, .int (nI m)), (2, .int (atI S m)), (3, .int (nI 0)), (4, .int (nI 0))]) [3, 4, 2, 1, 0] rfl ?_
    exact first 8 0 _ σ M rfl (BS.zero.to (fun i _ => by simp)) (by rw [clr_0, hnm]; exact hG) hM MF.rf M0.rf
  | some s =>
    have hs := (aAt_some ha).1
    have hati := atI_some ha
    refine x_if_lt (tgt := 18) dX2_letsAll_10 (by decide) (fun h_ => absurd h_ (by rw [hati]; exact nI_pos (by omega))) (fun _ => ?_)
    refine x_aload_n dX2_letsAll_13 2 rfl rfl ?_
    refine x_iload_n dX2_letsAll_14 3 rfl rfl ?_
    refine x_callV dX2_letsAll_15 (con_X2_leaves hM (S := S) (m := m) (s := s) hG hI hm ha) (lw_V q2037 q2039 qs61 q101 q2040) (np := 1) (by decide +kernel) rfl (rcv_of vC_2 hM.1) ⟨Nat.le_of_ble_eq_true rfl, Nat.le_of_ble_eq_true rfl⟩ (Nat.le_of_ble_eq_true rfl) rfl (by decide) (by decide) (rV fun σ16 h15 => ?_) nV'
    obtain ⟨M18, hAM18, hFM18, h0M18, hGM18⟩ : GP a ad σ M (noMore S m) σ16 := GP.tr MF.rf M0.rf h15
    refine x_iconst (v := nI 0) dX2_letsAll_18 (by decide) ?_
    refine x_istore (i := 4) (L' := [(4, .int (nI 0)), (3, .int (nI 0)), (2, .int (atI S m)), (0, .ref a), (1, .int (nI m))]) dX2_letsAll_19 (by decide) rfl ?_
    refine x_locs (L' := [(0, .ref a), (1, .int (nI m)), (2, .int (atI S m)), (3, .int (nI 0)), (4, .int (nI 0))]) [3, 4, 2, 1, 0] rfl ?_
    exact first 8 0 _ _ M18 rfl (BS.zero.to (fun i _ => by simp)) (by rw [clr_0]; exact hGM18) hAM18 hFM18 h0M18
noncomputable def yI (S : AS) : Int32 := match young S with
  | none => -1
  | some m => nI m
theorem yI_none {S : AS} (h : young S = none) : yI S = -1 := by unfold yI; rw [h]
theorem yI_some {S : AS} {m : Nat} (h : young S = some m) : yI S = nI m := by unfold yI; rw [h]
theorem sub1 (n : Nat) : nI n - nI 1 = nI n + (-1) := Int32.sub_eq_add_neg _ _
set_option maxHeartbeats 4000000 in
set_option maxRecDepth 100000 in
theorem con_X2_youngestInRing {l : Launch} {G : YG} {σ : AH} {a : Nat} {ad : Nat → Nat} {M : MS} {S : AS} (hM : MAt σ a ad M) (hG : GR (M.1 0) S) (hI : IV S) : Con l yX2_youngestInRing cX2_youngestInRing 2 (some FieldType.int) G 4 0 0 [.ref a] σ (PS σ (yI S)) := by
  refine con_of (by decide) (Nat.le_of_ble_eq_true rfl) ?_
  refine x_locs (L' := [(0, .ref a)]) [0] rfl ?_
  have hC := hI.c
  refine x_aload_n dX2_youngestInRing_0 0 rfl rfl ?_
  refine x_get dX2_youngestInRing_1 vC_2 in_X2 hM.1 0 (by decide) q1876 rfl ?_
  refine x_iconst (v := nI 0) dX2_youngestInRing_4 (by decide) ?_
  refine x_iald (N := 429) (j := 0) (v := nI (nC S)) dX2_youngestInRing_5 (hM.2.1 0 rfl) (rfl) (by decide) (by decide) (hG.c) ?_
  refine x_iconst (v := nI 1) dX2_youngestInRing_6 (by decide) ?_
  refine x_isub dX2_youngestInRing_7 ?_
  refine x_top (x' := nI (nC S) + (-1)) (sub1 _) ?_
  refine x_istore_n (i := 1) (L' := [(1, .int (nI (nC S) + (-1))), (0, .ref a)]) dX2_youngestInRing_8 rfl (by decide) rfl ?_
  refine x_locs (L' := [(0, .ref a), (1, .int (nI (nC S) + (-1)))]) [1, 0] rfl ?_
  suffices loop : ∀ n, n ≤ nC S → young S = yg S n → X l yX2_youngestInRing cX2_youngestInRing 2 (some FieldType.int) [] G (yroom 4 0 0) (yEnd G (yroom 4 0 0) (PS σ (yI S))) 9 [(0, .ref a), (1, .int (nI n + (-1)))] [] σ 0 0 from loop (nC S) (Nat.le_refl _) rfl
  intro n
  induction n with
  | zero =>
    intro hn hy
    refine x_iload_n dX2_youngestInRing_9 1 rfl rfl ?_
    refine x_if_lt (tgt := 29) dX2_youngestInRing_10 (by decide) (fun _ => ?_) (fun h_ => absurd (by decide) h_)
    refine x_iconst (v := (-1)) dX2_youngestInRing_29 (by decide) ?_
    exact x_iret dX2_youngestInRing_30 rfl (pS' (by rw [yI_none hy]))
  | succ n ih =>
    intro hn hy
    rw [pk_m1]
    refine x_iload_n dX2_youngestInRing_9 1 rfl rfl ?_
    refine x_if_lt (tgt := 29) dX2_youngestInRing_10 (by decide) (fun h_ => absurd h_ (nI_pos (by omega))) (fun _ => ?_)
    refine x_aload_n dX2_youngestInRing_13 0 rfl rfl ?_
    refine x_iload_n dX2_youngestInRing_14 1 rfl rfl ?_
    refine x_callV dX2_youngestInRing_15 (con_X2_isInRing hM hG hI (m := n) (by omega)) (lw_V q2021 q2023 qs57 q101 q2024) (np := 1) (by decide +kernel) rfl (rcv_of vC_2 hM.1) ⟨Nat.le_of_ble_eq_true rfl, Nat.le_of_ble_eq_true rfl⟩ (Nat.le_of_ble_eq_true rfl) rfl (by decide) (by decide) (rS ?_) nI'
    refine x_if_eq (tgt := 23) dX2_youngestInRing_18 (by decide) (fun c1 => ?_) (fun c1 => ?_)
    · have c1 := bI_0 c1
      have hy2 : young S = yg S n := by rw [hy]; conv => lhs; unfold yg
                                        rw [if_neg (by rw [c1]; exact fun z => by cases z)]
      refine x_iinc (i := 1) (q := 1) (v := (nI n) + (-1)) (L' := [(1, .int ((nI n) + (-1))), (0, .ref a)]) dX2_youngestInRing_23 rfl (rfl) (by decide) rfl ?_
      refine x_goto (tgt := 9) dX2_youngestInRing_26 (by decide) ?_
      refine x_locs (L' := [(0, .ref a), (1, .int ((nI n) + (-1)))]) [1, 0] rfl ?_
      exact ih (by omega) hy2
    · have c1 := bI_1 c1
      have hy2 : young S = some n := by rw [hy]; unfold yg; rw [if_pos c1]
      refine x_iload_n dX2_youngestInRing_21 1 rfl rfl ?_
      exact x_iret dX2_youngestInRing_22 rfl (pS' (by rw [yI_some hy2]))
set_option maxHeartbeats 4000000 in
set_option maxRecDepth 100000 in
theorem con_X2_breaks {l : Launch} {G : YG} {σ : AH} {a : Nat} {ad : Nat → Nat} {M : MS} {S : AS} (hM : MAt σ a ad M) (hG : GR (M.1 0) S) (hI : IV S) : Con l yX2_breaks cX2_breaks 2 none G 5 0 0 [.ref a] σ (PV fun τ => GP a ad σ M (brk (nW S) S) τ) := by
  refine con_of (by decide) (Nat.le_of_ble_eq_true rfl) ?_
  refine x_locs (L' := [(0, .ref a)]) [0] rfl ?_
  refine x_aload_n dX2_breaks_0 0 rfl rfl ?_
  refine x_callV dX2_breaks_1 (con_X2_youngestInRing hM hG hI) (lw_V q2017 q2019 qs56 q101 q2020) (np := 0) (by decide +kernel) rfl (rcv_of vC_2 hM.1) ⟨Nat.le_of_ble_eq_true rfl, Nat.le_of_ble_eq_true rfl⟩ (Nat.le_of_ble_eq_true rfl) rfl (by decide) (by decide) (rS ?_) nI'
  refine x_istore_n (i := 1) (L' := [(1, .int (yI S)), (0, .ref a)]) dX2_breaks_4 rfl (by decide) rfl ?_
  refine x_locs (L' := [(0, .ref a), (1, .int (yI S))]) [1, 0] rfl ?_
  suffices loop : ∀ (f : Nat) (T : AS) (τ : AH) (N : MS), nW T ≤ f → brk (nW S) S = brk f T → IV T → GR (N.1 0) T → MAt τ a ad N → MF a ad σ τ → M0 M N → X l yX2_breaks cX2_breaks 2 none [] G (yroom 5 0 0) (yEnd G (yroom 5 0 0) (PV fun τ => GP a ad σ M (brk (nW S) S) τ)) 5 [(0, .ref a), (1, .int (yI T))] [] τ 0 0 from loop (nW S) S σ M (Nat.le_refl _) rfl hI hG hM MF.rf M0.rf
  intro f
  induction f with
  | zero =>
    intro T τ N hf hb hT hGT hN hFN h0N
    have hy := nW_zero (show nW T = 0 by omega)
    refine x_iload_n dX2_breaks_5 1 rfl rfl ?_
    refine x_if_lt (tgt := 47) dX2_breaks_6 (by decide) (fun _ => ?_) (fun h_ => absurd (by rw [yI_none hy]; decide) h_)
    exact x_vret dX2_breaks_47 rfl (⟨rfl, N, hN, hFN, h0N, by rw [hb]; exact hGT⟩)
  | succ f ih =>
    intro T τ N hf hb hT hGT hN hFN h0N
    have hC := hT.c
    cases hy : young T with
    | none =>
      have hb2 : brk (f + 1) T = T := by unfold brk; rw [hy]
      refine x_iload_n dX2_breaks_5 1 rfl rfl ?_
      refine x_if_lt (tgt := 47) dX2_breaks_6 (by decide) (fun _ => ?_) (fun h_ => absurd (by rw [yI_none hy]; decide) h_)
      exact x_vret dX2_breaks_47 rfl (⟨rfl, N, hN, hFN, h0N, by rw [hb, hb2]; exact hGT⟩)
    | some m =>
      have hb2 : brk (f + 1) T = brk f (letAll (incL T m) m).1 := by conv => lhs; unfold brk
                                                                     rw [hy]
      have hm := (young_some hy).1
      have hm24 : m < 24 := by omega
      rw [yI_some hy]
      refine x_iload_n dX2_breaks_5 1 rfl rfl ?_
      refine x_if_lt (tgt := 47) dX2_breaks_6 (by decide) (fun h_ => absurd h_ (nI_pos (by omega))) (fun _ => ?_)
      refine x_aload_n dX2_breaks_9 0 rfl rfl ?_
      refine x_iload_n dX2_breaks_10 1 rfl rfl ?_
      refine x_iconst (v := nI 3) dX2_breaks_11 (by decide) ?_
      refine x_aload_n dX2_breaks_12 0 rfl rfl ?_
      refine x_iload_n dX2_breaks_13 1 rfl rfl ?_
      refine x_iconst (v := nI 3) dX2_breaks_14 (by decide) ?_
      refine x_callV dX2_breaks_15 (con_X2_of hN (m := m) (w := 3) hm24 (by decide)) (lw_V q1966 q1968 qs44 q101 q1969) (np := 2) (by decide +kernel) rfl (rcv_of vC_2 hN.1) ⟨Nat.le_of_ble_eq_true rfl, Nat.le_of_ble_eq_true rfl⟩ (Nat.le_of_ble_eq_true rfl) rfl (by decide) (by decide) (rS ?_) nI'
      refine x_top (x' := nI (lG T m)) ((hGT.2.1 m hm24).2.1) ?_
      refine x_iconst (v := nI 1) dX2_breaks_18 (by decide) ?_
      refine x_iadd dX2_breaks_19 ?_
      refine x_top (x' := nI (lG T m + 1)) (nI_add _ _) ?_
      refine x_callV dX2_breaks_20 (con_X2_lays hN (m := m) (w := 3) (v := nI (lG T m + 1)) hm24 (by decide)) (lw_V q1951 q1953 qs42 q101 q1954) (np := 3) (by decide +kernel) rfl (rcv_of vC_2 hN.1) ⟨Nat.le_of_ble_eq_true rfl, Nat.le_of_ble_eq_true rfl⟩ (Nat.le_of_ble_eq_true rfl) rfl (by decide) (by decide) (rV fun σ3 h1 => ?_) nV'
      obtain ⟨hA9, hF9⟩ := h1
      refine x_aload_n dX2_breaks_23 0 rfl rfl ?_
      refine x_get dX2_breaks_24 vC_2 in_X2 hA9.1 0 (by decide) q1876 rfl ?_
      refine x_iconst (v := nI 4) dX2_breaks_27 (by decide) ?_
      refine x_dup2_11 dX2_breaks_28 rfl rfl ?_
      refine x_iald (N := 429) (j := 4) (v := nI (sm (lG T) 24)) dX2_breaks_29 (hA9.2.1 0 rfl) (rfl) (by decide) (by decide) ((pk_un (by omega)).trans hGT.1.2.2.2.2.1) ?_
      refine x_iconst (v := nI 1) dX2_breaks_30 (by decide) ?_
      refine x_iadd dX2_breaks_31 ?_
      refine x_top (x' := nI (sm (lG T) 24 + 1)) (nI_add _ _) ?_
      refine x_iast (N := 429) (j := 4) (w := nI (sm (lG T) 24 + 1)) dX2_breaks_32 (hA9.2.1 0 rfl) rfl (by decide) (by decide) (fun σ6 h7 h8 => ?_)
      obtain ⟨M5, hAM5, hFM5, h0M5, hGM5⟩ : GP a ad σ M (incL T m) σ6 := GP.gA (f := upd ((mG1 N (5 + 6 * m + 3) (nI (lG T m + 1))).1 0) (4) (nI (sm (lG T) 24 + 1))) (MF.tr hFN hF9) (M0.tr h0N M0.g1) (hA9.arr (k := 0) rfl h7 h8) (GR.sLG (S := T) hGT hC (fun s hs => hT.len hs) hm24)
      refine x_aload_n dX2_breaks_33 0 rfl rfl ?_
      refine x_iload_n dX2_breaks_34 1 rfl rfl ?_
      refine x_callV dX2_breaks_35 (con_X2_letsAll hAM5 hGM5 (hT.iIncL (m := m)) (m := m) hm) (lw_V q2033 q2035 qs60 q101 q2036) (np := 1) (by decide +kernel) rfl (rcv_of vC_2 hAM5.1) ⟨Nat.le_of_ble_eq_true rfl, Nat.le_of_ble_eq_true rfl⟩ (Nat.le_of_ble_eq_true rfl) rfl (by decide) (by decide) (rI fun r11 σ10 h9 => ?_) nI'
      obtain ⟨M12, hAM12, hFM12, h0M12, hGM12⟩ : GP a ad σ M ((letAll (incL T m) m).1) σ10 := GP.tr hFM5 h0M5 h9.2
      refine x_top (x' := nI (letAll (incL T m) m).2) (h9.1) ?_
      refine x_pop dX2_breaks_38 rfl ?_
      refine x_aload_n dX2_breaks_39 0 rfl rfl ?_
      refine x_callV dX2_breaks_40 (con_X2_youngestInRing hAM12 hGM12 (hT.iIncL.iLetAll)) (lw_V q2017 q2019 qs56 q101 q2020) (np := 0) (by decide +kernel) rfl (rcv_of vC_2 hAM12.1) ⟨Nat.le_of_ble_eq_true rfl, Nat.le_of_ble_eq_true rfl⟩ (Nat.le_of_ble_eq_true rfl) rfl (by decide) (by decide) (rS ?_) nI'
      refine x_istore_n (i := 1) (L' := [(1, .int (yI (letAll (incL T m) m).1)), (0, .ref a)]) dX2_breaks_43 rfl (by decide) rfl ?_
      refine x_goto (tgt := 5) dX2_breaks_44 (by decide) ?_
      refine x_locs (L' := [(0, .ref a), (1, .int (yI (letAll (incL T m) m).1))]) [1, 0] rfl ?_
      exact ih _ _ M12 (by have := nW_young hT hy; omega) (by rw [hb, hb2]) hT.iIncL.iLetAll hGM12 hAM12 hFM12 h0M12
