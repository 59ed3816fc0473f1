set_option maxRecDepth 100000
def barN (b : Option (Nat × Nat)) : Nat := match b with
  | none => 0
  | some r => r.1
noncomputable def wA (S : AS) (m s k : Nat) : AS × Nat := if atOnce S m s k then (giveW S s (m, k, hw S m s == 1), 2) else opWait S m s k
theorem opWant_none {S : AS} {m s k : Nat} (h : bar S m s k = none) : opWant S m s k = .inr (wA S m s k) := by
  unfold opWant wA
  rw [h]
  simp only
  split <;> rfl
theorem opWant_some {S : AS} {m s k : Nat} {r : Nat × Nat} (h : bar S m s k = some r) : opWant S m s k = .inl r := by unfold opWant; rw [h]
theorem bar_at {S : AS} {m s k z : Nat} (h : aAt S m = some z) : bar S m s k = some (2, z) := by unfold bar; rw [h]
theorem bar_so {S : AS} {m s k : Nat} (h : aAt S m = none) (h2 : hw S m s = 2 ∨ hw S m s = k) : bar S m s k = some (3, hw S m s) := by unfold bar; rw [h]; simp only; rw [if_pos h2]
theorem bar_no {S : AS} {m s k : Nat} (h : aAt S m = none) (h2 : hw S m s ≠ 2) (h3 : hw S m s ≠ k) : bar S m s k = none := by unfold bar; rw [h]; simp only; rw [if_neg (fun z => z.elim h2 h3)]
theorem CP.fin {a : Nat} {ad : Nat → Nat} {σ υ τ : AH} {M N : MS} {c : CS} {past' : List AS} {S' : AS} (hC : CR M c) (hF : MF a ad σ υ) (hi : ∀ i, i ≠ 1 → N.1 i = M.1 i) (hj : ∀ j, j ≠ 6 → j ≠ 14 → N.2 j = M.2 j) (hK : KR N past') (hP : GP a ad υ N S' τ) : CP a ad σ M (S', past', c.2.2) τ := by
  obtain ⟨N', h1, h2, h3, h4⟩ := hP
  refine ⟨N', h1, hF.tr h2, ⟨fun i a b => (h3.1 i a).trans (hi i b), fun j a b c d => by rw [h3.2]; exact hj j a d⟩, h4, hK.of (by rw [h3.2]) (h3.1 1 (by decide)), ?_, ?_⟩
  · rw [h3.2, hj 8 (by decide) (by decide)]; exact hC.2.2.1
  · rw [h3.2, hj 9 (by decide) (by decide)]; exact hC.2.2.2
theorem CP.ref {a : Nat} {ad : Nat → Nat} {σ τ : AH} {M N : MS} {c : CS} {r d : Int32} (hC : CR M c) (h1 : N.1 = M.1) (h2 : ∀ j, j ≠ 14 → N.2 j = M.2 j) (hM : MAt τ a ad (mS (mS N 8 r) 9 d)) (hF : MF a ad σ τ) : CP a ad σ M (c.1, c.2.1, r, d) τ :=
  ⟨_, hM, hF, ⟨fun i _ _ => by show N.1 i = _; rw [h1], fun j _ b d e => by show (if j = 9 then _ else if j = 8 then _ else N.2 j) = _; rw [if_neg d, if_neg b, h2 j e]⟩, by show GR (N.1 0) c.1; rw [h1]; exact hC.1, hC.2.1.of (h2 6 (by decide)) (by show N.1 1 = _; rw [h1]), rfl, rfl⟩
theorem CP.rf {a : Nat} {ad : Nat → Nat} {σ : AH} {M : MS} {c : CS} (hM : MAt σ a ad M) (hC : CR M c) : CP a ad σ M c σ := ⟨M, hM, MF.rf, MP.rf, hC⟩
theorem x_top2 {l : Launch} {y : MethodName} {cc : ByteArray} {nL : Nat} {ret : Option FieldType} {hh : List (Nat × Nat × Nat × Nat)} {G : YG} {R : Room} {Z : YE} {pc : Nat} {L : List (Nat × Value)} {v : Value} {rest : List Value} {σ : AH} {k n : Nat} {x x' : Int32} (h : x = x') (kk : X l y cc nL ret hh G R Z pc L (v :: .int x' :: rest) σ k n) : X l y cc nL ret hh G R Z pc L (v :: .int x :: rest) σ k n := h ▸ kk
set_option maxHeartbeats 4000000 in
set_option maxRecDepth 100000 in
theorem con_X2_bars {l : Launch} {G : YG} {σ : AH} {a : Nat} {ad : Nat → Nat} {M : MS} {S : AS} {m s k : Nat} (hM : MAt σ a ad M) (hG : GR (M.1 0) S) (hI : IV S) (hm : m < nC S) (hs : s < 8) (hk : k < 3) : Con l yX2_bars cX2_bars 4 (some FieldType.int) G 1 0 0 [.ref a, .int (nI m), .int (nI s), .int (nI k)] σ (PI fun z τ => z = nI (barN (bar S m s k)) ∧ ∃ v, MAt τ a ad (mS M 14 v) ∧ MF a ad σ τ ∧ ∀ r, bar S m s k = some r → v = nI r.2) := by
  refine con_of (by decide) (Nat.le_of_ble_eq_true rfl) ?_
  refine x_locs (L' := [(0, .ref a), (1, .int (nI m)), (2, .int (nI s)), (3, .int (nI k))]) [0, 1, 2, 3] rfl ?_
  have hC := hI.c
  have hm24 : m < 24 := by omega
  have h2 := hI.2.2.1 m s
  refine x_aload_n dX2_bars_0 0 rfl rfl ?_
  refine x_aload_n dX2_bars_1 0 rfl rfl ?_
  refine x_iload_n dX2_bars_2 1 rfl rfl ?_
  refine x_iconst (v := nI 1) dX2_bars_3 (by decide) ?_
  refine x_callV dX2_bars_4 (con_X2_of hM (m := m) (w := 1) hm24 (by decide)) (lw_V q1966 q1968 qs44 q101 q1969) (np := 2) (by decide +kernel) rfl (rcv_of vC_2 hM.1) ⟨Nat.le_of_ble_eq_true rfl, Nat.le_of_ble_eq_true rfl⟩ (Nat.le_of_ble_eq_true rfl) rfl (by decide) (by decide) (rS ?_) nI'
  refine x_top (x' := atI S m) ((hG.2.2.1 m hm).1) ?_
  refine x_put (fs' := mFs ad (mS M 14 (atI S m))) dX2_bars_7 vC_2 in_X2 tyX2_ok nmX2 hM.1 14 (by decide) q1890 rfl rfl (rfl) (rfl) (Nat.le_of_ble_eq_true rfl) rfl (fun σ2 h3 h4 => ?_)
  obtain ⟨hAM5, hBM5⟩ := hM.fld (k := 14) (v := atI S m) h3 h4
  refine x_aload_n dX2_bars_10 0 rfl rfl ?_
  refine x_get dX2_bars_11 vC_2 in_X2 hAM5.1 14 (by decide) q1890 rfl ?_
  refine x_top (x' := atI S m) (rfl) ?_
  refine x_if_lt (tgt := 19) dX2_bars_14 (by decide) (fun c1 => ?_) (fun c1 => ?_)
  · have ha : aAt S m = none := by
      cases h : aAt S m with
      | none => rfl
      | some z => have hz := (aAt_some h).1; rw [atI_some h] at c1; exact absurd c1 (nI_pos (by omega))
    refine x_aload_n dX2_bars_19 0 rfl rfl ?_
    refine x_aload_n dX2_bars_20 0 rfl rfl ?_
    refine x_iload_n dX2_bars_21 1 rfl rfl ?_
    refine x_iload_n dX2_bars_22 2 rfl rfl ?_
    refine x_callV dX2_bars_23 (con_X2_lock hAM5 (m := m) (s := s) hm24 hs) (lw_V q1977 q1979 qs46 q101 q1980) (np := 2) (by decide +kernel) rfl (rcv_of vC_2 hAM5.1) ⟨Nat.le_of_ble_eq_true rfl, Nat.le_of_ble_eq_true rfl⟩ (Nat.le_of_ble_eq_true rfl) rfl (by decide) (by decide) (rS ?_) nI'
    refine x_top (x' := nI (hw S m s)) (hG.hwE hm24 hs) ?_
    refine x_put (fs' := mFs ad (mS (mS M 14 (atI S m)) 14 (nI (hw S m s)))) dX2_bars_26 vC_2 in_X2 tyX2_ok nmX2 hAM5.1 14 (by decide) q1890 rfl rfl (rfl) (rfl) (Nat.le_of_ble_eq_true rfl) rfl (fun σ7 h8 h9 => ?_)
    obtain ⟨hAM10, hBM10⟩ := hAM5.fld (k := 14) (v := nI (hw S m s)) h8 h9
    refine x_aload_n dX2_bars_29 0 rfl rfl ?_
    refine x_get dX2_bars_30 vC_2 in_X2 hAM10.1 14 (by decide) q1890 rfl ?_
    refine x_iconst (v := nI 2) dX2_bars_33 (by decide) ?_
    refine x_top2 (x' := nI (hw S m s)) rfl ?_
    refine x_icmp_eq (tgt := 45) dX2_bars_34 (by decide) (fun c2 => ?_) (fun c2 => ?_)
    · have c2 := nEq (by omega) (by decide) c2
      refine x_iconst (v := nI 3) dX2_bars_45 (by decide) ?_
      refine x_goto (tgt := 50) dX2_bars_46 (by decide) ?_
      exact x_iret dX2_bars_50 rfl (⟨_, rfl, by rw [bar_so ha (Or.inl c2)]; rfl, _, hAM10, (MF.tr (MF.tr MF.rf hBM5) hBM10), fun r hr => by rw [bar_so ha (Or.inl c2)] at hr; cases hr; rfl⟩)
    · have c2 := nNe (by omega) (by decide) c2
      refine x_aload_n dX2_bars_37 0 rfl rfl ?_
      refine x_get dX2_bars_38 vC_2 in_X2 hAM10.1 14 (by decide) q1890 rfl ?_
      refine x_iload_n dX2_bars_41 3 rfl rfl ?_
      refine x_top2 (x' := nI (hw S m s)) rfl ?_
      refine x_icmp_ne (tgt := 49) dX2_bars_42 (by decide) (fun c3 => ?_) (fun c3 => ?_)
      · have c3 := nNe (by omega) (by omega) c3
        refine x_iconst (v := nI 0) dX2_bars_49 (by decide) ?_
        exact x_iret dX2_bars_50 rfl (⟨_, rfl, by rw [bar_no ha c2 c3]; rfl, _, hAM10, (MF.tr (MF.tr MF.rf hBM5) hBM10), fun r hr => by rw [bar_no ha c2 c3] at hr; cases hr⟩)
      · have c3 := nEq (by omega) (by omega) c3
        refine x_iconst (v := nI 3) dX2_bars_45 (by decide) ?_
        refine x_goto (tgt := 50) dX2_bars_46 (by decide) ?_
        exact x_iret dX2_bars_50 rfl (⟨_, rfl, by rw [bar_so ha (Or.inr c3)]; rfl, _, hAM10, (MF.tr (MF.tr MF.rf hBM5) hBM10), fun r hr => by rw [bar_so ha (Or.inr c3)] at hr; cases hr; rfl⟩)
  · have ha : ∃ z, aAt S m = some z := by
      cases h : aAt S m with
      | some z => exact ⟨z, rfl⟩
      | none => rw [atI_none h] at c1; exact absurd c1 (by decide)
    obtain ⟨z, ha⟩ := ha
    refine x_iconst (v := nI 2) dX2_bars_17 (by decide) ?_
    exact x_iret dX2_bars_18 rfl (⟨_, rfl, by rw [bar_at ha]; rfl, _, hAM5, (MF.tr MF.rf hBM5), fun r hr => by rw [bar_at ha] at hr; cases hr; exact atI_some ha⟩)
set_option maxHeartbeats 4000000 in
set_option maxRecDepth 100000 in
theorem con_X2_isAtOnce {l : Launch} {G : YG} {σ : AH} {a : Nat} {ad : Nat → Nat} {M : MS} {S : AS} {m s k : Nat} (hM : MAt σ a ad M) (hG : GR (M.1 0) S) (hI : IV S) (hm : m < 24) (hs : s < 8) (hk : k = 1 ∨ k = 2) (h1 : hw S m s ≠ k) : Con l yX2_isAtOnce cX2_isAtOnce 4 (some FieldType.boolean) G 2 0 0 [.ref a, .int (nI m), .int (nI s), .int (nI k)] σ (PS σ (bI (atOnce S m s k))) := by
  refine con_of (by decide) (Nat.le_of_ble_eq_true rfl) ?_
  refine x_locs (L' := [(0, .ref a), (1, .int (nI m)), (2, .int (nI s)), (3, .int (nI k))]) [0, 1, 2, 3] rfl ?_
  have hC := hI.c
  have h2 := hI.2.2.1 m s
  have hl8 := hI.len hs
  refine x_aload_n dX2_isAtOnce_0 0 rfl rfl ?_
  refine x_iload_n dX2_isAtOnce_1 1 rfl rfl ?_
  refine x_iload_n dX2_isAtOnce_2 2 rfl rfl ?_
  refine x_callV dX2_isAtOnce_3 (con_X2_lock hM (m := m) (s := s) hm hs) (lw_V q1977 q1979 qs46 q101 q1980) (np := 2) (by decide +kernel) rfl (rcv_of vC_2 hM.1) ⟨Nat.le_of_ble_eq_true rfl, Nat.le_of_ble_eq_true rfl⟩ (Nat.le_of_ble_eq_true rfl) rfl (by decide) (by decide) (rS ?_) nI'
  refine x_top (x' := nI (hw S m s)) (hG.hwE hm hs) ?_
  have tail : ((hw S m s == 1) || (qu S s).isEmpty) = true → X l yX2_isAtOnce cX2_isAtOnce 4 (some FieldType.boolean) [] G (yroom 2 0 0) (yEnd G (yroom 2 0 0) (PS σ (bI (atOnce S m s k)))) 19 [(0, .ref a), (1, .int (nI m)), (2, .int (nI s)), (3, .int (nI k))] [] σ 0 0 := by
    intro ht
    refine x_aload_n dX2_isAtOnce_19 0 rfl rfl ?_
    refine x_iload_n dX2_isAtOnce_20 1 rfl rfl ?_
    refine x_iload_n dX2_isAtOnce_21 2 rfl rfl ?_
    refine x_iload_n dX2_isAtOnce_22 3 rfl rfl ?_
    refine x_callV dX2_isAtOnce_23 (con_X2_can hM hG hC hm hs hk (fun e => e ▸ h1) (fun o => hI.2.2.1 o s)) (lw_V q1993 q1995 qs50 q101 q1996) (np := 3) (by decide +kernel) rfl (rcv_of vC_2 hM.1) ⟨Nat.le_of_ble_eq_true rfl, Nat.le_of_ble_eq_true rfl⟩ (Nat.le_of_ble_eq_true rfl) rfl (by decide) (by decide) (rS ?_) nI'
    refine x_if_eq (tgt := 33) dX2_isAtOnce_26 (by decide) (fun c2 => ?_) (fun c2 => ?_)
    · have c2 := bI_0 c2
      refine x_iconst (v := nI 0) dX2_isAtOnce_33 (by decide) ?_
      exact x_zret dX2_isAtOnce_34 rfl (rfl) (pS' (by unfold atOnce; rw [ht, c2]; rfl))
    · have c2 := bI_1 c2
      refine x_iconst (v := nI 1) dX2_isAtOnce_29 (by decide) ?_
      refine x_goto (tgt := 34) dX2_isAtOnce_30 (by decide) ?_
      exact x_zret dX2_isAtOnce_34 rfl (rfl) (pS' (by unfold atOnce; rw [ht, c2]; rfl))
  refine x_iconst (v := nI 1) dX2_isAtOnce_6 (by decide) ?_
  refine x_icmp_eq (tgt := 19) dX2_isAtOnce_7 (by decide) (fun c1 => ?_) (fun c1 => ?_)
  · have c1 := nEq (by omega) (by decide) c1
    refine x_locs (L' := [(0, .ref a), (1, .int (nI m)), (2, .int (nI s)), (3, .int (nI k))]) [0, 1, 2, 3] rfl ?_
    exact tail (by rw [c1]; rfl)
  · have c1 := nNe (by omega) (by decide) c1
    refine x_aload_n dX2_isAtOnce_10 0 rfl rfl ?_
    refine x_iload_n dX2_isAtOnce_11 2 rfl rfl ?_
    refine x_iconst (v := nI 2) dX2_isAtOnce_12 (by decide) ?_
    refine x_callV dX2_isAtOnce_13 (con_X2_shelf hM (s := s) (w := 2) hs (by decide)) (lw_V q1989 q1991 qs49 q101 q1992) (np := 2) (by decide +kernel) rfl (rcv_of vC_2 hM.1) ⟨Nat.le_of_ble_eq_true rfl, Nat.le_of_ble_eq_true rfl⟩ (Nat.le_of_ble_eq_true rfl) rfl (by decide) (by decide) (rS ?_) nI'
    refine x_top (x' := nI (qu S s).length) ((hG.2.2.2.2.1 s hs).2.2) ?_
    refine x_if_ne (tgt := 33) dX2_isAtOnce_16 (by decide) (fun c2 => ?_) (fun c2 => ?_)
    · have c2 : (qu S s).length ≠ 0 := fun z => c2 (by rw [z]; rfl)
      have hf : atOnce S m s k = false := by
        unfold atOnce
        rw [show (hw S m s == 1) = false by simp [c1], show (qu S s).isEmpty = false by cases hq : qu S s; rw [hq] at c2; exact absurd rfl c2; rfl]
        rfl
      refine x_iconst (v := nI 0) dX2_isAtOnce_33 (by decide) ?_
      exact x_zret dX2_isAtOnce_34 rfl (rfl) (pS' (by rw [hf]; rfl))
    · have c2 : (qu S s).length = 0 := n0 (by omega) c2
      refine x_locs (L' := [(0, .ref a), (1, .int (nI m)), (2, .int (nI s)), (3, .int (nI k))]) [0, 1, 2, 3] rfl ?_
      exact tail (by rw [List.eq_nil_of_length_eq_zero c2]; simp)
set_option maxHeartbeats 4000000 in
set_option maxRecDepth 100000 in
theorem con_X2_wants {l : Launch} {G : YG} {σ : AH} {a : Nat} {ad : Nat → Nat} {M : MS} {S : AS} {m s k : Nat} (hM : MAt σ a ad M) (hG : GR (M.1 0) S) (hI : IV S) (hQ : IQ S) (ht : tH S m = true) (hs : s < 8) (hk : k = 1 ∨ k = 2) (hb : bar S m s k = none) : Con l yX2_wants cX2_wants 4 (some FieldType.int) G 6 0 0 [.ref a, .int (nI m), .int (nI s), .int (nI k)] σ (PI fun z τ => z = nI (wA S m s k).2 ∧ GP a ad σ M (wA S m s k).1 τ) := by
  refine con_of (by decide) (Nat.le_of_ble_eq_true rfl) ?_
  refine x_locs (L' := [(0, .ref a), (1, .int (nI m)), (2, .int (nI s)), (3, .int (nI k))]) [0, 1, 2, 3] rfl ?_
  have hC := hI.c
  have hm := hI.th ht
  have hm24 : m < 24 := by omega
  obtain ⟨hat, hn2, hnk⟩ := bar_none hb
  have h2 := hI.2.2.1 m s
  refine x_aload_n dX2_wants_0 0 rfl rfl ?_
  refine x_iload_n dX2_wants_1 1 rfl rfl ?_
  refine x_iload_n dX2_wants_2 2 rfl rfl ?_
  refine x_iload_n dX2_wants_3 3 rfl rfl ?_
  refine x_callV dX2_wants_4 (con_X2_isAtOnce hM hG hI hm24 hs hk hnk) (lw_V q1985 q1987 qs48 q101 q1988) (np := 3) (by decide +kernel) rfl (rcv_of vC_2 hM.1) ⟨Nat.le_of_ble_eq_true rfl, Nat.le_of_ble_eq_true rfl⟩ (Nat.le_of_ble_eq_true rfl) rfl (by decide) (by decide) (rS ?_) nI'
  refine x_if_eq (tgt := 19) dX2_wants_7 (by decide) (fun c1 => ?_) (fun c1 => ?_)
  · have c1 := bI_0 c1
    have hA : wA S m s k = opWait S m s k := by unfold wA; rw [if_neg (by rw [c1]; exact fun z => by cases z)]
    have hI2 : IV (waitW S s (m, k, hw S m s == 1)) := hI.iWaitW hs ht hk (by omega) hat
    obtain ⟨T1, hT1⟩ : ∃ T1, T1 = sRow S s (insW (m, k, hw S m s == 1) (qu S s)) := ⟨_, rfl⟩
    obtain ⟨W, hW⟩ : ∃ W, W = waitW S s (m, k, hw S m s == 1) := ⟨_, rfl⟩
    have hWT : W = sWT T1 (fset (wT T1) m (wT T1 m + 1)) := by rw [hW, hT1]; rfl
    have hIT : IV T1 := by rw [hT1]; exact hI2
    rw [← hW] at hI2
    have hIB := IV.iBrk (nW W) hI2
    have hKB := KP.br (nW W) hI2
    obtain ⟨T, hT⟩ : ∃ T, T = brk (nW W) W := ⟨_, rfl⟩
    rw [← hT] at hIB hKB
    have hC2 : nC T = nC S := by rw [hKB.1, hW]; rfl
    have hQ2 : ∀ s, s < 8 → lQ T s ≤ 8 := by rw [hKB.2.2.2.1, hW]; exact hQ
    have h2T := hIB.2.2.1 m s
    have hop : opWait S m s k = (cnts T, if hw T m s = k then 2 else if (aAt T m).isSome then 1 else 0) := by unfold opWait; rw [← hW, ← hT]
    refine x_aload_n dX2_wants_19 0 rfl rfl ?_
    refine x_iload_n dX2_wants_20 1 rfl rfl ?_
    refine x_iload_n dX2_wants_21 2 rfl rfl ?_
    refine x_iload_n dX2_wants_22 3 rfl rfl ?_
    refine x_callV dX2_wants_23 ((hT1 ▸ con_X2_comesToWait hM hG hI ht hs hat)) (lw_V q2009 q2011 qs54 q101 q2012) (np := 3) (by decide +kernel) rfl (rcv_of vC_2 hM.1) ⟨Nat.le_of_ble_eq_true rfl, Nat.le_of_ble_eq_true rfl⟩ (Nat.le_of_ble_eq_true rfl) rfl (by decide) (by decide) (rV fun σ3 h2 => ?_) nV'
    obtain ⟨M5, hAM5, hFM5, h0M5, hGM5⟩ : GP a ad σ M (T1) σ3 := GP.tr MF.rf M0.rf h2
    refine x_aload_n dX2_wants_26 0 rfl rfl ?_
    refine x_iload_n dX2_wants_27 1 rfl rfl ?_
    refine x_iconst (v := nI 4) dX2_wants_28 (by decide) ?_
    refine x_aload_n dX2_wants_29 0 rfl rfl ?_
    refine x_iload_n dX2_wants_30 1 rfl rfl ?_
    refine x_iconst (v := nI 4) dX2_wants_31 (by decide) ?_
    refine x_callV dX2_wants_32 (con_X2_of hAM5 (m := m) (w := 4) hm24 (by decide)) (lw_V q1966 q1968 qs44 q101 q1969) (np := 2) (by decide +kernel) rfl (rcv_of vC_2 hAM5.1) ⟨Nat.le_of_ble_eq_true rfl, Nat.le_of_ble_eq_true rfl⟩ (Nat.le_of_ble_eq_true rfl) rfl (by decide) (by decide) (rS ?_) nI'
    refine x_top (x' := nI (wT T1 m)) ((hGM5.2.1 m hm24).2.2.1) ?_
    refine x_iconst (v := nI 1) dX2_wants_35 (by decide) ?_
    refine x_iadd dX2_wants_36 ?_
    refine x_top (x' := nI (wT T1 m + 1)) (nI_add _ _) ?_
    refine x_callV dX2_wants_37 (con_X2_lays hAM5 (m := m) (w := 4) (v := nI (wT T1 m + 1)) hm24 (by decide)) (lw_V q1951 q1953 qs42 q101 q1954) (np := 3) (by decide +kernel) rfl (rcv_of vC_2 hAM5.1) ⟨Nat.le_of_ble_eq_true rfl, Nat.le_of_ble_eq_true rfl⟩ (Nat.le_of_ble_eq_true rfl) rfl (by decide) (by decide) (rV fun σ7 h1 => ?_) nV'
    obtain ⟨hA9, hF9⟩ := h1
    refine x_aload_n dX2_wants_40 0 rfl rfl ?_
    refine x_get dX2_wants_41 vC_2 in_X2 hA9.1 0 (by decide) q1876 rfl ?_
    refine x_iconst (v := nI 3) dX2_wants_44 (by decide) ?_
    refine x_dup2_11 dX2_wants_45 rfl rfl ?_
    refine x_iald (N := 429) (j := 3) (v := nI (sm (wT T1) 24)) dX2_wants_46 (hA9.2.1 0 rfl) (rfl) (by decide) (by decide) (by show upd (M5.1 0) (5 + 6 * m + 4) (nI (wT T1 m + 1)) 3 = _; rw [pk_un (by omega)]; exact hGM5.1.2.2.2.1) ?_
    refine x_iconst (v := nI 1) dX2_wants_47 (by decide) ?_
    refine x_iadd dX2_wants_48 ?_
    refine x_top (x' := nI (sm (wT T1) 24 + 1)) (nI_add _ _) ?_
    refine x_iast (N := 429) (j := 3) (w := nI (sm (wT T1) 24 + 1)) dX2_wants_49 (hA9.2.1 0 rfl) rfl (by decide) (by decide) (fun σ10 h11 h12 => ?_)
    obtain ⟨M9, hAM9, hFM9, h0M9, hGM9⟩ : GP a ad σ M (W) σ10 := GP.gA (f := upd ((mG1 M5 (5 + 6 * m + 4) (nI (wT T1 m + 1))).1 0) (3) (nI (sm (wT T1) 24 + 1))) (MF.tr hFM5 hF9) (M0.tr h0M5 M0.g1) (hA9.arr (k := 0) rfl h11 h12) (hWT ▸ GR.sWT (S := T1) hGM5 hIT.c (fun s hs => hIT.len hs) hm24)
    refine x_aload_n dX2_wants_50 0 rfl rfl ?_
    refine x_callV dX2_wants_51 ((hT ▸ con_X2_breaks hAM9 hGM9 hI2)) (lw_V q2013 q2015 qs55 q101 q2016) (np := 0) (by decide +kernel) rfl (rcv_of vC_2 hAM9.1) ⟨Nat.le_of_ble_eq_true rfl, Nat.le_of_ble_eq_true rfl⟩ (Nat.le_of_ble_eq_true rfl) rfl (by decide) (by decide) (rV fun σ14 h13 => ?_) nV'
    obtain ⟨M16, hAM16, hFM16, h0M16, hGM16⟩ : GP a ad σ M (T) σ14 := GP.tr hFM9 h0M9 h13
    refine x_aload_n dX2_wants_54 0 rfl rfl ?_
    refine x_callV dX2_wants_55 (con_X2_counts hAM16 hGM16 hIB.c (fun s hs => hIB.len hs) hQ2) (lw_V q2045 q2047 qs63 q101 q2048) (np := 0) (by decide +kernel) rfl (rcv_of vC_2 hAM16.1) ⟨Nat.le_of_ble_eq_true rfl, Nat.le_of_ble_eq_true rfl⟩ (Nat.le_of_ble_eq_true rfl) rfl (by decide) (by decide) (rV fun σ18 h17 => ?_) nV'
    obtain ⟨M20, hAM20, hFM20, h0M20, hGM20⟩ : GP a ad σ M (cnts T) σ18 := GP.tr hFM16 h0M16 h17
    refine x_aload_n dX2_wants_58 0 rfl rfl ?_
    refine x_iload_n dX2_wants_59 1 rfl rfl ?_
    refine x_iload_n dX2_wants_60 2 rfl rfl ?_
    refine x_callV dX2_wants_61 (con_X2_lock hAM20 (m := m) (s := s) hm24 hs) (lw_V q1977 q1979 qs46 q101 q1980) (np := 2) (by decide +kernel) rfl (rcv_of vC_2 hAM20.1) ⟨Nat.le_of_ble_eq_true rfl, Nat.le_of_ble_eq_true rfl⟩ (Nat.le_of_ble_eq_true rfl) rfl (by decide) (by decide) (rS ?_) nI'
    refine x_top (x' := nI (hw T m s)) (hGM20.hwE hm24 hs) ?_
    refine x_iload_n dX2_wants_64 3 rfl rfl ?_
    refine x_icmp_ne (tgt := 72) dX2_wants_65 (by decide) (fun c2 => ?_) (fun c2 => ?_)
    · have c2 := nNe (by omega) (by omega) c2
      refine x_aload_n dX2_wants_72 0 rfl rfl ?_
      refine x_iload_n dX2_wants_73 1 rfl rfl ?_
      refine x_iconst (v := nI 1) dX2_wants_74 (by decide) ?_
      refine x_callV dX2_wants_75 (con_X2_of hAM20 (m := m) (w := 1) hm24 (by decide)) (lw_V q1966 q1968 qs44 q101 q1969) (np := 2) (by decide +kernel) rfl (rcv_of vC_2 hAM20.1) ⟨Nat.le_of_ble_eq_true rfl, Nat.le_of_ble_eq_true rfl⟩ (Nat.le_of_ble_eq_true rfl) rfl (by decide) (by decide) (rS ?_) nI'
      refine x_top (x' := atI T m) ((hGM20.2.2.1 m (by show m < nC T; omega)).1) ?_
      cases ha : aAt T m with
      | none =>
        refine x_if_lt (tgt := 85) dX2_wants_78 (by decide) (fun _ => ?_) (fun h_ => absurd (by rw [atI_none ha]; decide) h_)
        refine x_iconst (v := nI 0) dX2_wants_85 (by decide) ?_
        exact x_iret dX2_wants_86 rfl (⟨_, rfl, by rw [hA, hop, if_neg c2, ha]; rfl, by rw [hA, hop]; exact ⟨M20, hAM20, hFM20, h0M20, hGM20⟩⟩)
      | some z =>
        have hz := (aAt_some ha).1
        refine x_if_lt (tgt := 85) dX2_wants_78 (by decide) (fun h_ => absurd h_ (by rw [atI_some ha]; exact nI_pos (by omega))) (fun _ => ?_)
        refine x_iconst (v := nI 1) dX2_wants_81 (by decide) ?_
        refine x_goto (tgt := 86) dX2_wants_82 (by decide) ?_
        exact x_iret dX2_wants_86 rfl (⟨_, rfl, by rw [hA, hop, if_neg c2, ha]; rfl, by rw [hA, hop]; exact ⟨M20, hAM20, hFM20, h0M20, hGM20⟩⟩)
    · have c2 := nEq (by omega) (by omega) c2
      refine x_iconst (v := nI 2) dX2_wants_68 (by decide) ?_
      refine x_goto (tgt := 86) dX2_wants_69 (by decide) ?_
      exact x_iret dX2_wants_86 rfl (⟨_, rfl, by rw [hA, hop, if_pos c2], by rw [hA, hop]; exact ⟨M20, hAM20, hFM20, h0M20, hGM20⟩⟩)
  · have c1 := bI_1 c1
    have hA : wA S m s k = (giveW S s (m, k, hw S m s == 1), 2) := by unfold wA; rw [if_pos c1]
    refine x_aload_n dX2_wants_10 0 rfl rfl ?_
    refine x_iload_n dX2_wants_11 1 rfl rfl ?_
    refine x_iload_n dX2_wants_12 2 rfl rfl ?_
    refine x_iload_n dX2_wants_13 3 rfl rfl ?_
    refine x_callV dX2_wants_14 (con_X2_has hM hG hC (fun s hs => hI.len hs) hm24 hs (b := hw S m s == 1)) (lw_V q1997 q1999 qs51 q101 q2000) (np := 3) (by decide +kernel) rfl (rcv_of vC_2 hM.1) ⟨Nat.le_of_ble_eq_true rfl, Nat.le_of_ble_eq_true rfl⟩ (Nat.le_of_ble_eq_true rfl) rfl (by decide) (by decide) (rV fun σ24 h23 => ?_) nV'
    obtain ⟨M26, hAM26, hFM26, h0M26, hGM26⟩ : GP a ad σ M (giveW S s (m, k, hw S m s == 1)) σ24 := GP.tr MF.rf M0.rf h23
    refine x_iconst (v := nI 2) dX2_wants_17 (by decide) ?_
    exact x_iret dX2_wants_18 rfl (⟨_, rfl, by rw [hA], by rw [hA]; exact ⟨M26, hAM26, hFM26, h0M26, hGM26⟩⟩)
