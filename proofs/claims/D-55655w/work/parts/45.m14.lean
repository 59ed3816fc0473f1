set_option maxRecDepth 100000
/-- the reference's numbers are the same again -/
def GQ (a : Nat) (ad : Nat → Nat) (σ : AH) (M : MS) (S : AS) (τ : AH) : Prop := ∃ N, MAt τ a ad N ∧ MF a ad σ τ ∧ MZq M N ∧ GR (N.1 0) S
theorem GQ.rf {a : Nat} {ad : Nat → Nat} {σ : AH} {M : MS} {S : AS} (hM : MAt σ a ad M) (hG : GR (M.1 0) S) : GQ a ad σ M S σ := ⟨M, hM, MF.rf, ⟨fun _ _ _ _ _ => rfl, fun _ _ _ _ => rfl⟩, hG⟩
theorem GQ.of14 {a : Nat} {ad : Nat → Nat} {σ τ : AH} {M : MS} {S : AS} {v : Int32} (hG : GR (M.1 0) S) (hB : MAt τ a ad (mS M 14 v)) (hF : MF a ad σ τ) : GQ a ad σ M S τ := ⟨_, hB, hF, ⟨fun _ _ _ _ _ => rfl, fun j h _ _ => by show (if j = 14 then _ else M.2 j) = _; rw [if_neg h]⟩, hG⟩
theorem barN_0 {S : AS} {m s k : Nat} : barN (bar S m s k) = 0 ↔ bar S m s k = none := by
  cases h : bar S m s k with
  | none => simp [barN]
  | some r =>
    have hr1 : 0 < r.1 := by
      unfold bar at h
      split at h
      · cases h; exact Nat.le_of_ble_eq_true rfl
      · split at h
        · cases h; exact Nat.le_of_ble_eq_true rfl
        · cases h
    simp [barN]; omega
theorem barN_lt {S : AS} {m s k : Nat} : barN (bar S m s k) < 4 := by
  cases h : bar S m s k with
  | none => simp [barN]
  | some r =>
    unfold bar at h
    split at h
    · cases h; exact Nat.le_of_ble_eq_true rfl
    · split at h
      · cases h; exact Nat.le_of_ble_eq_true rfl
      · cases h
theorem GQ.back {a : Nat} {ad : Nat → Nat} {σ τ : AH} {M N : MS} {S : AS} {v0 : Int32} {f : Nat → Int32} (hI : IV S) (hG : GR (M.1 0) S) (h0 : M0 (mA (mS M 14 v0) 4 (va_cpy (M.1 0) (M.1 4) 0 0 429)) N) (h : MAt τ a ad (mA N 0 (va_cpy (N.1 4) f 0 0 429))) (hF : MF a ad σ τ) : GQ a ad σ M S τ := by
  refine ⟨_, h, hF, ⟨fun i g1 g2 g3 g4 => ?_, fun j g1 g2 g3 => ?_⟩, hI.ex hG (fun j hj => ?_)⟩
  · show (if i = 0 then _ else N.1 i) = _
    rw [if_neg g1, h0.1 i g1]
    show (if i = 4 then _ else M.1 i) = _
    rw [if_neg g3]
  · show N.2 j = _
    rw [h0.2]
    show (if j = 14 then _ else M.2 j) = _
    rw [if_neg g1]
  · show va_cpy (N.1 4) f 0 0 429 j = _
    rw [pk_cpy_in (by omega) (by omega), h0.1 4 (by decide)]
    show va_cpy (M.1 0) (M.1 4) 0 0 429 (0 + (j - 0)) = _
    rw [pk_cpy_in (by omega) (by omega), show 0 + (0 + (j - 0) - 0) = j by omega]
set_option maxHeartbeats 4000000 in
set_option maxRecDepth 100000 in
theorem con_X2_wouldRing {l : Launch} {G : YG} {σ : AH} {a : Nat} {ad : Nat → Nat} {M : MS} {S : AS} {b : Bool} {v u : Int32} (hM : MAt σ a ad M) (hG : GR (M.1 0) S) (hI : IV S) : Con l yX2_wouldRing cX2_wouldRing 6 (some FieldType.int) G 4 0 0 [.ref a, .int v, .int u, .int (bI b)] σ (PI fun z τ => z = qRing S v u b ∧ GQ a ad σ M S τ) := by
  refine con_of (by decide) (Nat.le_of_ble_eq_true rfl) ?_
  refine x_locs (L' := [(0, .ref a), (1, .int v), (2, .int u), (3, .int (bI b))]) [0, 1, 2, 3] rfl ?_
  refine x_aload_n dX2_wouldRing_0 0 rfl rfl ?_
  refine x_iload_n dX2_wouldRing_1 1 rfl rfl ?_
  refine x_callV dX2_wouldRing_2 (con_X2_isMaid hM hG hI (v := v)) (lw_V q1959 q1961 qs43 q101 q1962) (np := 1) (by decide +kernel) rfl (rcv_of vC_2 hM.1) ⟨Nat.le_of_ble_eq_true rfl, Nat.le_of_ble_eq_true rfl⟩ (Nat.le_of_ble_eq_true rfl) rfl (by decide) (by decide) (rS ?_) nI'
  refine x_if_eq (tgt := 15) dX2_wouldRing_5 (by decide) (fun c1 => ?_) (fun c1 => ?_)
  · have c1 := bI_0 c1
    have hco : qRing S v u b = (-11) := by unfold qRing; rw [c1]; rfl
    refine x_bipush (v := (-11)) dX2_wouldRing_15 (by decide) ?_
    exact x_iret dX2_wouldRing_17 rfl (⟨_, rfl, by rw [hco], GQ.rf hM hG⟩)
  · have c1 := bI_1 c1
    refine x_iload_n dX2_wouldRing_8 2 rfl rfl ?_
    refine x_callS dX2_wouldRing_9 (con_X2_isShelf (v := u)) (lw_S q1970 q1971 q101 q1972) (np := 1) (by decide +kernel) rfl ⟨Nat.le_of_ble_eq_true rfl, Nat.le_of_ble_eq_true rfl⟩ (Nat.le_of_ble_eq_true rfl) rfl (by decide) (by decide) (rS ?_) nI'
    refine x_if_ne (tgt := 18) dX2_wouldRing_12 (by decide) (fun c2 => ?_) (fun c2 => ?_)
    · have c2 : isS u = true := bI_1 c2
      obtain ⟨m, hm, rfl, hvn, htm⟩ := isT_of hI.c c1
      obtain ⟨s, hs, rfl, hun⟩ := isS_of c2
      have hC24 := hI.c
      have hm24 : m < 24 := by omega
      obtain ⟨k, hk⟩ : ∃ k, k = if b = true then 2 else 1 := ⟨_, rfl⟩
      have hk12 : k = 1 ∨ k = 2 := by rw [hk]; split <;> omega
      have h2 := hI.2.2.1 m s
      have hco : qRing S (nI m) (nI s) b = (if (bar S m s k).isSome || atOnce S m s k then 0 else bI (rB (waitW S s (m, k, hw S m s == 1)) m m)) := by unfold qRing; rw [c1, c2, show iN (nI m) = m from hvn, show iN (nI s) = s from hun, hk]; rfl
      have tail : X l yX2_wouldRing cX2_wouldRing 6 (some FieldType.int) [] G (yroom 4 0 0) (yEnd G (yroom 4 0 0) (PI fun z τ => z = qRing S (nI m) (nI s) b ∧ GQ a ad σ M S τ)) 27 [(0, .ref a), (1, .int (nI m)), (2, .int (nI s)), (3, .int (bI b))] [.int (nI k)] σ 0 0 := by
        refine x_istore (i := 4) (L' := [(4, .int (nI k)), (0, .ref a), (1, .int (nI m)), (2, .int (nI s)), (3, .int (bI b))]) dX2_wouldRing_27 (by decide) rfl ?_
        refine x_aload_n dX2_wouldRing_29 1 rfl rfl ?_
        refine x_iload_n dX2_wouldRing_30 2 rfl rfl ?_
        refine x_iload_n dX2_wouldRing_31 3 rfl rfl ?_
        refine x_iload dX2_wouldRing_32 0 rfl ?_
        refine x_callV dX2_wouldRing_34 (con_X2_bars hM hG hI (m := m) (s := s) (k := k) hm hs (by omega)) (lw_V q1973 q1975 qs45 q101 q1976) (np := 3) (by decide +kernel) rfl (rcv_of vC_2 hM.1) ⟨Nat.le_of_ble_eq_true rfl, Nat.le_of_ble_eq_true rfl⟩ (Nat.le_of_ble_eq_true rfl) rfl (by decide) (by decide) (rI fun z σ3 h1 => ?_) nI'
        obtain ⟨rfl, v0, hB, hFB, hv0⟩ := h1
        have hb4 := barN_lt (S := S) (m := m) (s := s) (k := k)
        refine x_if_gt (tgt := 51) dX2_wouldRing_37 (by decide) (fun c4 => ?_) (fun c4 => ?_)
        · have hb : (bar S m s k).isSome = true := by
            cases h : bar S m s k with
            | none => rw [barN_0.mpr h] at c4; exact absurd c4 (by decide)
            | some r => rfl
          refine x_iconst (v := nI 0) dX2_wouldRing_51 (by decide) ?_
          exact x_iret dX2_wouldRing_52 rfl (⟨_, rfl, by rw [hco, hb]; rfl, GQ.of14 hG hB hFB⟩)
        · have hb : bar S m s k = none := by
            refine barN_0.mp ?_
            rcases Nat.eq_zero_or_pos (barN (bar S m s k)) with q | q
            · exact q
            · exact absurd ((nI_ltI (a := 0) (by decide) (by omega)).mpr q) (by rw [nI_0]; exact c4)
          obtain ⟨hat, hn2, hnk⟩ := bar_none hb
          refine x_aload_n dX2_wouldRing_40 1 rfl rfl ?_
          refine x_iload_n dX2_wouldRing_41 2 rfl rfl ?_
          refine x_iload_n dX2_wouldRing_42 3 rfl rfl ?_
          refine x_iload dX2_wouldRing_43 0 rfl ?_
          refine x_callV dX2_wouldRing_45 (con_X2_isAtOnce hB hG hI hm24 hs hk12 hnk) (lw_V q1985 q1987 qs48 q101 q1988) (np := 3) (by decide +kernel) rfl (rcv_of vC_2 hB.1) ⟨Nat.le_of_ble_eq_true rfl, Nat.le_of_ble_eq_true rfl⟩ (Nat.le_of_ble_eq_true rfl) rfl (by decide) (by decide) (rS ?_) nI'
          refine x_if_eq (tgt := 53) dX2_wouldRing_48 (by decide) (fun c5 => ?_) (fun c5 => ?_)
          · have c5 := bI_0 c5
            have hI2 : IV (waitW S s (m, k, hw S m s == 1)) := hI.iWaitW hs htm hk12 (by omega) hat
            have hI3 : IV (sRow S s (insW (m, k, hw S m s == 1) (qu S s))) := hI2
            have hco2 : qRing S (nI m) (nI s) b = bI (rB (sRow S s (insW (m, k, hw S m s == 1) (qu S s))) m m) := by rw [hco, hb, c5]; rfl
            refine x_aload_n dX2_wouldRing_53 1 rfl rfl ?_
            refine x_get dX2_wouldRing_54 vC_2 in_X2 hB.1 0 (by decide) q1876 rfl ?_
            refine x_iconst (v := nI 0) dX2_wouldRing_57 (by decide) ?_
            refine x_aload_n dX2_wouldRing_58 1 rfl rfl ?_
            refine x_get dX2_wouldRing_59 vC_2 in_X2 hB.1 4 (by decide) q1880 rfl ?_
            refine x_iconst (v := nI 0) dX2_wouldRing_62 (by decide) ?_
            refine x_callS dX2_wouldRing_63 (con_X2_copies (p := ad 0) (q := ad 4) (N1 := 429) (N2 := 429) (at_ := 0) (on := 0) (f := M.1 0) (g := M.1 4) (hB.2.1 0 rfl) (hB.2.1 4 rfl) (fun z => absurd (hB.2.2 0 4 rfl rfl z) (by decide)) (by decide) (by decide) (by decide) (by decide)) (lw_S q1948 q1949 q101 q1950) (np := 4) (by decide +kernel) rfl ⟨Nat.le_of_ble_eq_true rfl, Nat.le_of_ble_eq_true rfl⟩ (Nat.le_of_ble_eq_true rfl) rfl (by decide) (by decide) (rV fun σ5 h5 => ?_) nV'
            obtain ⟨hA5, hF5⟩ := hB.arr (k := 4) rfl h5.1 h5.2
            refine x_aload_n dX2_wouldRing_66 1 rfl rfl ?_
            refine x_iload_n dX2_wouldRing_67 2 rfl rfl ?_
            refine x_iload_n dX2_wouldRing_68 3 rfl rfl ?_
            refine x_iload dX2_wouldRing_69 0 rfl ?_
            refine x_callV dX2_wouldRing_71 (con_X2_comesToWait (S := S) hA5 hG hI htm hs hat (k := k)) (lw_V q2009 q2011 qs54 q101 q2012) (np := 3) (by decide +kernel) rfl (rcv_of vC_2 hA5.1) ⟨Nat.le_of_ble_eq_true rfl, Nat.le_of_ble_eq_true rfl⟩ (Nat.le_of_ble_eq_true rfl) rfl (by decide) (by decide) (rV fun σ7 h7 => ?_) nV'
            obtain ⟨N, hN, hFN, h0N, hGN⟩ := h7
            refine x_aload_n dX2_wouldRing_74 1 rfl rfl ?_
            refine x_iload_n dX2_wouldRing_75 2 rfl rfl ?_
            refine x_callV dX2_wouldRing_76 (con_X2_isInRing hN hGN hI3 (m := m) hm) (lw_V q2021 q2023 qs57 q101 q2024) (np := 1) (by decide +kernel) rfl (rcv_of vC_2 hN.1) ⟨Nat.le_of_ble_eq_true rfl, Nat.le_of_ble_eq_true rfl⟩ (Nat.le_of_ble_eq_true rfl) rfl (by decide) (by decide) (rS ?_) nI'
            refine x_istore (i := 5) (L' := [(5, .int (bI (rB (sRow S s (insW (m, k, hw S m s == 1) (qu S s))) m m))), (4, .int (nI k)), (0, .ref a), (1, .int (nI m)), (2, .int (nI s)), (3, .int (bI b))]) dX2_wouldRing_79 (by decide) rfl ?_
            refine x_aload_n dX2_wouldRing_81 2 rfl rfl ?_
            refine x_get dX2_wouldRing_82 vC_2 in_X2 hN.1 4 (by decide) q1880 rfl ?_
            refine x_iconst (v := nI 0) dX2_wouldRing_85 (by decide) ?_
            refine x_aload_n dX2_wouldRing_86 2 rfl rfl ?_
            refine x_get dX2_wouldRing_87 vC_2 in_X2 hN.1 0 (by decide) q1876 rfl ?_
            refine x_iconst (v := nI 0) dX2_wouldRing_90 (by decide) ?_
            refine x_callS dX2_wouldRing_91 (con_X2_copies (p := ad 4) (q := ad 0) (N1 := 429) (N2 := 429) (at_ := 0) (on := 0) (f := N.1 4) (g := N.1 0) (hN.2.1 4 rfl) (hN.2.1 0 rfl) (fun z => absurd (hN.2.2 4 0 rfl rfl z) (by decide)) (by decide) (by decide) (by decide) (by decide)) (lw_S q1948 q1949 q101 q1950) (np := 4) (by decide +kernel) rfl ⟨Nat.le_of_ble_eq_true rfl, Nat.le_of_ble_eq_true rfl⟩ (Nat.le_of_ble_eq_true rfl) rfl (by decide) (by decide) (rV fun σ10 h6 => ?_) nV'
            obtain ⟨hA6, hF6⟩ := hN.arr (k := 0) rfl h6.1 h6.2
            refine x_iload dX2_wouldRing_94 0 rfl ?_
            refine x_if_eq (tgt := 103) dX2_wouldRing_96 (by decide) (fun c6 => ?_) (fun c6 => ?_)
            · have c6 := bI_0 c6
              refine x_iconst (v := nI 0) dX2_wouldRing_103 (by decide) ?_
              exact x_iret dX2_wouldRing_104 rfl (⟨_, rfl, by rw [hco2, c6]; rfl, GQ.back hI hG h0N hA6 (((hFB.tr hF5).tr hFN).tr hF6)⟩)
            · have c6 := bI_1 c6
              refine x_iconst (v := nI 1) dX2_wouldRing_99 (by decide) ?_
              refine x_goto (tgt := 104) dX2_wouldRing_100 (by decide) ?_
              exact x_iret dX2_wouldRing_104 rfl (⟨_, rfl, by rw [hco2, c6]; rfl, GQ.back hI hG h0N hA6 (((hFB.tr hF5).tr hFN).tr hF6)⟩)
          · have c5 := bI_1 c5
            refine x_iconst (v := nI 0) dX2_wouldRing_51 (by decide) ?_
            exact x_iret dX2_wouldRing_52 rfl (⟨_, rfl, by rw [hco, c5, Bool.or_true]; rfl, GQ.of14 hG hB hFB⟩)
      refine x_iload_n dX2_wouldRing_18 3 rfl rfl ?_
      refine x_if_eq (tgt := 26) dX2_wouldRing_19 (by decide) (fun c3 => ?_) (fun c3 => ?_)
      · have c3 := bI_0 c3
        refine x_iconst (v := nI 1) dX2_wouldRing_26 (by decide) ?_
        rw [c3] at hk
        subst hk
        rw [c3] at tail ⊢
        exact tail
      · have c3 := bI_1 c3
        refine x_iconst (v := nI 2) dX2_wouldRing_22 (by decide) ?_
        refine x_goto (tgt := 27) dX2_wouldRing_23 (by decide) ?_
        rw [c3] at hk
        subst hk
        rw [c3] at tail ⊢
        exact tail
    · have c2 : isS u = false := bI_0 c2
      have hco : qRing S v u b = (-11) := by unfold qRing; rw [c1, c2]; rfl
      refine x_bipush (v := (-11)) dX2_wouldRing_15 (by decide) ?_
      exact x_iret dX2_wouldRing_17 rfl (⟨_, rfl, by rw [hco], GQ.rf hM hG⟩)
set_option maxHeartbeats 4000000 in
set_option maxRecDepth 100000 in
theorem con_X2_wouldRingAgain {l : Launch} {G : YG} {σ : AH} {a : Nat} {ad : Nat → Nat} {M : MS} {S : AS} {b : Bool} {v u : Int32} (hM : MAt σ a ad M) (hG : GR (M.1 0) S) (hI : IV S) : Con l yX2_wouldRingAgain cX2_wouldRingAgain 4 (some FieldType.int) G 5 0 0 [.ref a, .int v, .int u, .int (bI b)] σ (PI fun z τ => z = qRing S v u b ∧ GQ a ad σ M S τ) := by
  refine con_of (by decide) (Nat.le_of_ble_eq_true rfl) ?_
  refine x_locs (L' := [(0, .ref a), (1, .int v), (2, .int u), (3, .int (bI b))]) [0, 1, 2, 3] rfl ?_
  refine x_aload_n dX2_wouldRingAgain_0 0 rfl rfl ?_
  refine x_iload_n dX2_wouldRingAgain_1 1 rfl rfl ?_
  refine x_iload_n dX2_wouldRingAgain_2 2 rfl rfl ?_
  refine x_iload_n dX2_wouldRingAgain_3 3 rfl rfl ?_
  refine x_callV dX2_wouldRingAgain_4 (con_X2_wouldRing hM hG hI (v := v) (u := u) (b := b)) (lw_V q2109 q2102 q2103 q101 q2104) (np := 3) (by decide +kernel) rfl (rcv_of vC_2 hM.1) ⟨Nat.le_of_ble_eq_true rfl, Nat.le_of_ble_eq_true rfl⟩ (Nat.le_of_ble_eq_true rfl) rfl (by decide) (by decide) (rI fun r2 σ1 h1 => ?_) nI'
  exact x_iret dX2_wouldRingAgain_7 rfl (⟨_, rfl, h1⟩)
set_option maxHeartbeats 4000000 in
set_option maxRecDepth 100000 in
theorem con_X2_would {l : Launch} {G : YG} {σ : AH} {a : Nat} {ad : Nat → Nat} {M : MS} {S : AS} {b : Bool} {v u : Int32} (hM : MAt σ a ad M) (hG : GR (M.1 0) S) (hI : IV S) (hQ : IQ S) : Con l yX2_would cX2_would 6 (some FieldType.int) G 7 0 0 [.ref a, .int v, .int u, .int (bI b)] σ (PI fun z τ => z = qWould S v u b ∧ GQ a ad σ M S τ) := by
  refine con_of (by decide) (Nat.le_of_ble_eq_true rfl) ?_
  refine x_locs (L' := [(0, .ref a), (1, .int v), (2, .int u), (3, .int (bI b))]) [0, 1, 2, 3] rfl ?_
  refine x_aload_n dX2_would_0 0 rfl rfl ?_
  refine x_iload_n dX2_would_1 1 rfl rfl ?_
  refine x_callV dX2_would_2 (con_X2_isMaid hM hG hI (v := v)) (lw_V q1959 q1961 qs43 q101 q1962) (np := 1) (by decide +kernel) rfl (rcv_of vC_2 hM.1) ⟨Nat.le_of_ble_eq_true rfl, Nat.le_of_ble_eq_true rfl⟩ (Nat.le_of_ble_eq_true rfl) rfl (by decide) (by decide) (rS ?_) nI'
  refine x_if_eq (tgt := 15) dX2_would_5 (by decide) (fun c1 => ?_) (fun c1 => ?_)
  · have c1 := bI_0 c1
    have hco : qWould S v u b = (-11) := by unfold qWould; rw [c1]; rfl
    refine x_bipush (v := (-11)) dX2_would_15 (by decide) ?_
    exact x_iret dX2_would_17 rfl (⟨_, rfl, by rw [hco], GQ.rf hM hG⟩)
  · have c1 := bI_1 c1
    refine x_iload_n dX2_would_8 2 rfl rfl ?_
    refine x_callS dX2_would_9 (con_X2_isShelf (v := u)) (lw_S q1970 q1971 q101 q1972) (np := 1) (by decide +kernel) rfl ⟨Nat.le_of_ble_eq_true rfl, Nat.le_of_ble_eq_true rfl⟩ (Nat.le_of_ble_eq_true rfl) rfl (by decide) (by decide) (rS ?_) nI'
    refine x_if_ne (tgt := 18) dX2_would_12 (by decide) (fun c2 => ?_) (fun c2 => ?_)
    · have c2 : isS u = true := bI_1 c2
      obtain ⟨m, hm, rfl, hvn, htm⟩ := isT_of hI.c c1
      obtain ⟨s, hs, rfl, hun⟩ := isS_of c2
      have hC24 := hI.c
      have hm24 : m < 24 := by omega
      obtain ⟨k, hk⟩ : ∃ k, k = if b = true then 2 else 1 := ⟨_, rfl⟩
      have hk12 : k = 1 ∨ k = 2 := by rw [hk]; split <;> omega
      have h2 := hI.2.2.1 m s
      have hco : qWould S (nI m) (nI s) b = (if (bar S m s k).isSome then -14 else nI (wA S m s k).2) := by unfold qWould; rw [c1, c2, show iN (nI m) = m from hvn, show iN (nI s) = s from hun, hk]; rfl
      have tail : X l yX2_would cX2_would 6 (some FieldType.int) [] G (yroom 7 0 0) (yEnd G (yroom 7 0 0) (PI fun z τ => z = qWould S (nI m) (nI s) b ∧ GQ a ad σ M S τ)) 27 [(0, .ref a), (1, .int (nI m)), (2, .int (nI s)), (3, .int (bI b))] [.int (nI k)] σ 0 0 := by
        refine x_istore (i := 4) (L' := [(4, .int (nI k)), (0, .ref a), (1, .int (nI m)), (2, .int (nI s)), (3, .int (bI b))]) dX2_would_27 (by decide) rfl ?_
        refine x_aload_n dX2_would_29 1 rfl rfl ?_
        refine x_iload_n dX2_would_30 2 rfl rfl ?_
        refine x_iload_n dX2_would_31 3 rfl rfl ?_
        refine x_iload dX2_would_32 0 rfl ?_
        refine x_callV dX2_would_34 (con_X2_bars hM hG hI (m := m) (s := s) (k := k) hm hs (by omega)) (lw_V q1973 q1975 qs45 q101 q1976) (np := 3) (by decide +kernel) rfl (rcv_of vC_2 hM.1) ⟨Nat.le_of_ble_eq_true rfl, Nat.le_of_ble_eq_true rfl⟩ (Nat.le_of_ble_eq_true rfl) rfl (by decide) (by decide) (rI fun z σ3 h1 => ?_) nI'
        obtain ⟨rfl, v0, hB, hFB, hv0⟩ := h1
        have hb4 := barN_lt (S := S) (m := m) (s := s) (k := k)
        refine x_if_le (tgt := 43) dX2_would_37 (by decide) (fun c4 => ?_) (fun c4 => ?_)
        · have hb : bar S m s k = none := barN_0.mp (le0 (by omega) c4)
          have hco2 : qWould S (nI m) (nI s) b = nI (wA S m s k).2 := by rw [hco, hb]; rfl
          refine x_aload_n dX2_would_43 1 rfl rfl ?_
          refine x_get dX2_would_44 vC_2 in_X2 hB.1 0 (by decide) q1876 rfl ?_
          refine x_iconst (v := nI 0) dX2_would_47 (by decide) ?_
          refine x_aload_n dX2_would_48 1 rfl rfl ?_
          refine x_get dX2_would_49 vC_2 in_X2 hB.1 4 (by decide) q1880 rfl ?_
          refine x_iconst (v := nI 0) dX2_would_52 (by decide) ?_
          refine x_callS dX2_would_53 (con_X2_copies (p := ad 0) (q := ad 4) (N1 := 429) (N2 := 429) (at_ := 0) (on := 0) (f := M.1 0) (g := M.1 4) (hB.2.1 0 rfl) (hB.2.1 4 rfl) (fun z => absurd (hB.2.2 0 4 rfl rfl z) (by decide)) (by decide) (by decide) (by decide) (by decide)) (lw_S q1948 q1949 q101 q1950) (np := 4) (by decide +kernel) rfl ⟨Nat.le_of_ble_eq_true rfl, Nat.le_of_ble_eq_true rfl⟩ (Nat.le_of_ble_eq_true rfl) rfl (by decide) (by decide) (rV fun σ4 h5 => ?_) nV'
          obtain ⟨hA5, hF5⟩ := hB.arr (k := 4) rfl h5.1 h5.2
          refine x_aload_n dX2_would_56 1 rfl rfl ?_
          refine x_iload_n dX2_would_57 2 rfl rfl ?_
          refine x_iload_n dX2_would_58 3 rfl rfl ?_
          refine x_iload dX2_would_59 0 rfl ?_
          refine x_callV dX2_would_61 (con_X2_wants (S := S) hA5 hG hI hQ htm hs hk12 hb) (lw_V q1981 q1983 qs47 q101 q1984) (np := 3) (by decide +kernel) rfl (rcv_of vC_2 hA5.1) ⟨Nat.le_of_ble_eq_true rfl, Nat.le_of_ble_eq_true rfl⟩ (Nat.le_of_ble_eq_true rfl) rfl (by decide) (by decide) (rI fun z σ6 h7 => ?_) nI'
          obtain ⟨rfl, N, hN, hFN, h0N, hGN⟩ := h7
          refine x_istore (i := 5) (L' := [(5, .int (nI (wA S m s k).2)), (4, .int (nI k)), (0, .ref a), (1, .int (nI m)), (2, .int (nI s)), (3, .int (bI b))]) dX2_would_64 (by decide) rfl ?_
          refine x_aload_n dX2_would_66 2 rfl rfl ?_
          refine x_get dX2_would_67 vC_2 in_X2 hN.1 4 (by decide) q1880 rfl ?_
          refine x_iconst (v := nI 0) dX2_would_70 (by decide) ?_
          refine x_aload_n dX2_would_71 2 rfl rfl ?_
          refine x_get dX2_would_72 vC_2 in_X2 hN.1 0 (by decide) q1876 rfl ?_
          refine x_iconst (v := nI 0) dX2_would_75 (by decide) ?_
          refine x_callS dX2_would_76 (con_X2_copies (p := ad 4) (q := ad 0) (N1 := 429) (N2 := 429) (at_ := 0) (on := 0) (f := N.1 4) (g := N.1 0) (hN.2.1 4 rfl) (hN.2.1 0 rfl) (fun z => absurd (hN.2.2 4 0 rfl rfl z) (by decide)) (by decide) (by decide) (by decide) (by decide)) (lw_S q1948 q1949 q101 q1950) (np := 4) (by decide +kernel) rfl ⟨Nat.le_of_ble_eq_true rfl, Nat.le_of_ble_eq_true rfl⟩ (Nat.le_of_ble_eq_true rfl) rfl (by decide) (by decide) (rV fun σ7 h6 => ?_) nV'
          obtain ⟨hA6, hF6⟩ := hN.arr (k := 0) rfl h6.1 h6.2
          refine x_iload dX2_would_79 0 rfl ?_
          exact x_iret dX2_would_81 rfl (⟨_, rfl, hco2.symm, GQ.back hI hG h0N hA6 (((hFB.tr hF5).tr hFN).tr hF6)⟩)
        · have hb : (bar S m s k).isSome = true := by
            cases h : bar S m s k with
            | none => rw [barN_0.mpr h] at c4; exact absurd (show nI 0 ≤ 0 by decide) c4
            | some r => rfl
          refine x_bipush (v := (-14)) dX2_would_40 (by decide) ?_
          exact x_iret dX2_would_42 rfl (⟨_, rfl, by rw [hco, hb]; rfl, GQ.of14 hG hB hFB⟩)
      refine x_iload_n dX2_would_18 3 rfl rfl ?_
      refine x_if_eq (tgt := 26) dX2_would_19 (by decide) (fun c3 => ?_) (fun c3 => ?_)
      · have c3 := bI_0 c3
        refine x_iconst (v := nI 1) dX2_would_26 (by decide) ?_
        rw [c3] at hk
        subst hk
        rw [c3] at tail ⊢
        exact tail
      · have c3 := bI_1 c3
        refine x_iconst (v := nI 2) dX2_would_22 (by decide) ?_
        refine x_goto (tgt := 27) dX2_would_23 (by decide) ?_
        rw [c3] at hk
        subst hk
        rw [c3] at tail ⊢
        exact tail
    · have c2 : isS u = false := bI_0 c2
      have hco : qWould S v u b = (-11) := by unfold qWould; rw [c1, c2]; rfl
      refine x_bipush (v := (-11)) dX2_would_15 (by decide) ?_
      exact x_iret dX2_would_17 rfl (⟨_, rfl, by rw [hco], GQ.rf hM hG⟩)
def NoRing (S : AS) : Prop := ∀ m, ¬ reach S m m
noncomputable def rk (S : AS) (m : Nat) : Nat := cn (fun o => rB S m o) 24
theorem cn_mono {f g : Nat → Bool} {n : Nat} (h : ∀ i, i < n → f i = true → g i = true) : cn f n ≤ cn g n := by
  induction n with
  | zero => exact Nat.le_refl _
  | succ n ih =>
    have h1 := ih (fun i hi => h i (by omega))
    show cn f n + _ ≤ cn g n + _
    by_cases e : f n = true
    · rw [if_pos e, if_pos (h n (by omega) e)]; omega
    · rw [if_neg e]; omega
theorem cn_lt {f g : Nat → Bool} {n k : Nat} (h : ∀ i, i < n → f i = true → g i = true) (hk : k < n) (h1 : f k = false) (h2 : g k = true) : cn f n < cn g n := by
  induction n with
  | zero => omega
  | succ n ih =>
    show cn f n + _ < cn g n + _
    by_cases e : k = n
    · subst e
      rw [if_pos h2, if_neg (by rw [h1]; exact fun z => by cases z)]
      have := cn_mono (n := k) (fun i hi => h i (by omega))
      omega
    · have h3 := ih (fun i hi => h i (by omega)) (by omega)
      by_cases e2 : f n = true
      · rw [if_pos e2, if_pos (h n (by omega) e2)]; omega
      · rw [if_neg e2]; omega
theorem rk_lt {S : AS} (hI : IV S) (hA : NoRing S) {m o : Nat} (h : edge S m o = true) : rk S o < rk S m := by
  have hoC := edge_lt hI h
  have hC := hI.c
  refine cn_lt (k := o) (fun i _ hi => ?_) (by omega) ?_ ?_
  · exact rB_iff.mpr (Relation.TransGen.trans (Relation.TransGen.single h) (rB_iff.mp hi))
  · cases q : rB S o o with
    | false => rfl
    | true => exact absurd (rB_iff.mp q) (hA o)
  · exact rB_iff.mpr (Relation.TransGen.single h)
theorem rk_le {S : AS} {m : Nat} : rk S m ≤ 24 := cn_le
set_option maxHeartbeats 4000000 in
set_option maxRecDepth 100000 in
theorem con_X2_chainFrom {l : Launch} {G : YG} {σ : AH} {a : Nat} {ad : Nat → Nat} {M : MS} {S : AS} {f m : Nat} (hM : MAt σ a ad M) (hG : GR (M.1 0) S) (hI : IV S) (hA : NoRing S) (hf2 : f ≤ 25) (hm : m < nC S) (hf : rk S m < f) : Con l yX2_chainFrom cX2_chainFrom 6 (some FieldType.int) G (f + 1) 0 0 [.ref a, .int (nI m)] σ (PS σ (nI (chN f S m))) := by
  induction f generalizing m with
  | zero => exact absurd hf (Nat.not_lt_zero _)
  | succ f ih =>
    refine con_of (by decide) (Nat.le_of_ble_eq_true rfl) ?_
    refine x_locs (L' := [(0, .ref a), (1, .int (nI m))]) [0, 1] rfl ?_
    have hC := hI.c
    have hm24 : m < 24 := by omega
    obtain ⟨F, hF⟩ : ∃ F : Nat → Nat, F = fun o => if edge S m o then chN f S o else 0 := ⟨_, rfl⟩
    have hch : chN (f + 1) S m = mx F (nC S) + 1 := by rw [hF]; rfl
    have hFl : ∀ n, mx F n ≤ f := fun n => mx_le.mpr (fun o _ => by rw [hF]; by_cases e : edge S m o = true; simp only [e, if_true]; exact chN_le f o; simp only [e]; exact Nat.zero_le _)
    refine x_aload_n dX2_chainFrom_0 0 rfl rfl ?_
    refine x_iload_n dX2_chainFrom_1 1 rfl rfl ?_
    refine x_callV dX2_chainFrom_2 (con_X2_waitsFor hM hG hI hm) (lw_V q2029 q2031 qs59 q101 q2032) (np := 1) (by decide +kernel) rfl (rcv_of vC_2 hM.1) ⟨by show _ ≤ (yroom (f + 1 + 1) 0 0).frames; unfold yroom; simp only; omega, by unfold yroom; simp only; omega⟩ (Nat.le_of_ble_eq_true rfl) rfl (by decide) (by decide) (rR fun z hz => ?_) nI'
    refine x_istore_n (i := 2) (L' := [(2, .int z), (0, .ref a), (1, .int (nI m))]) dX2_chainFrom_5 rfl (by decide) rfl ?_
    refine x_iconst (v := nI 0) dX2_chainFrom_6 (by decide) ?_
    refine x_istore_n (i := 3) (L' := [(3, .int (nI 0)), (2, .int z), (0, .ref a), (1, .int (nI m))]) dX2_chainFrom_7 rfl (by decide) rfl ?_
    refine x_iconst (v := nI 0) dX2_chainFrom_8 (by decide) ?_
    refine x_istore (i := 4) (L' := [(4, .int (nI 0)), (3, .int (nI 0)), (2, .int z), (0, .ref a), (1, .int (nI m))]) dX2_chainFrom_9 (by decide) rfl ?_
    refine x_locs (L' := [(0, .ref a), (1, .int (nI m)), (2, .int z), (3, .int (nI 0)), (4, .int (nI 0))]) [3, 4, 2, 1, 0] rfl ?_
    suffices loop : ∀ (d i : Nat), i + d = nC S → X l yX2_chainFrom cX2_chainFrom 6 (some FieldType.int) [] G (yroom (f + 1 + 1) 0 0) (yEnd G (yroom (f + 1 + 1) 0 0) (PS σ (nI (chN (f + 1) S m)))) 11 [(0, .ref a), (1, .int (nI m)), (2, .int z), (3, .int (nI (mx F i))), (4, .int (nI i))] [] σ 0 0 from loop (nC S) 0 (Nat.zero_add _)
    intro d
    induction d with
    | zero =>
      intro i hi
      have hin : i = nC S := by omega
      subst hin
      refine x_iload dX2_chainFrom_11 4 rfl ?_
      refine x_aload_n dX2_chainFrom_13 0 rfl rfl ?_
      refine x_get dX2_chainFrom_14 vC_2 in_X2 hM.1 0 (by decide) q1876 rfl ?_
      refine x_iconst (v := nI 0) dX2_chainFrom_17 (by decide) ?_
      refine x_iald (N := 429) (j := 0) (v := nI (nC S)) dX2_chainFrom_18 (hM.2.1 0 rfl) (rfl) (by decide) (by decide) (hG.c) ?_
      refine x_icmp_ge (tgt := 61) dX2_chainFrom_19 (by decide) (fun _ => ?_) (fun h_ => absurd ((nI_leI (by omega) (by omega)).mpr (Nat.le_refl _)) h_)
      refine x_iload_n dX2_chainFrom_61 3 rfl rfl ?_
      refine x_iconst (v := nI 1) dX2_chainFrom_62 (by decide) ?_
      refine x_iadd dX2_chainFrom_63 ?_
      refine x_top (x' := nI (mx F (nC S) + 1)) (nI_add _ _) ?_
      exact x_iret dX2_chainFrom_64 rfl (pS' (by rw [hch]))
    | succ d ihd =>
      intro i hi
      have hFi : F i = if edge S m i then chN f S i else 0 := by rw [hF]
      have hx := hFl i
      refine x_iload dX2_chainFrom_11 4 rfl ?_
      refine x_aload_n dX2_chainFrom_13 0 rfl rfl ?_
      refine x_get dX2_chainFrom_14 vC_2 in_X2 hM.1 0 (by decide) q1876 rfl ?_
      refine x_iconst (v := nI 0) dX2_chainFrom_17 (by decide) ?_
      refine x_iald (N := 429) (j := 0) (v := nI (nC S)) dX2_chainFrom_18 (hM.2.1 0 rfl) (rfl) (by decide) (by decide) (hG.c) ?_
      refine x_icmp_ge (tgt := 61) dX2_chainFrom_19 (by decide) (fun h_ => absurd h_ (fun h => absurd (nLe (by omega) (by omega) h) (by omega))) (fun _ => ?_)
      refine x_iload_n dX2_chainFrom_22 2 rfl rfl ?_
      refine x_iload dX2_chainFrom_23 4 rfl ?_
      refine x_ishr dX2_chainFrom_25 ?_
      refine x_iconst (v := nI 1) dX2_chainFrom_26 (by decide) ?_
      refine x_iand dX2_chainFrom_27 ?_
      refine x_top (x' := bI (edge S m i)) (hz.bit (by omega)) ?_
      refine x_if_ne (tgt := 34) dX2_chainFrom_28 (by decide) (fun c1 => ?_) (fun c1 => ?_)
      · have c1 := bI_1 c1
        rw [c1] at hFi
        have hFi : F i = chN f S i := hFi
        have hcl := chN_le (S := S) f i
        have hrk := rk_lt hI hA c1
        refine x_aload_n dX2_chainFrom_34 0 rfl rfl ?_
        refine x_iload dX2_chainFrom_35 4 rfl ?_
        refine x_callV dX2_chainFrom_37 (ih (m := i) (by omega) (by omega) (by omega)) (lw_V q2118 q2120 qs69 q101 q2121) (np := 1) (by decide +kernel) rfl (rcv_of vC_2 hM.1) ⟨by show _ ≤ (yroom (f + 1 + 1) 0 0).frames; unfold yroom; simp only; omega, by unfold yroom; simp only; omega⟩ (Nat.le_of_ble_eq_true rfl) rfl (by decide) (by decide) (rS ?_) nI'
        refine x_istore (i := 5) (L' := [(5, .int (nI (chN f S i))), (0, .ref a), (1, .int (nI m)), (2, .int z), (3, .int (nI (mx F i))), (4, .int (nI i))]) dX2_chainFrom_40 (by decide) rfl ?_
        refine x_iload dX2_chainFrom_42 0 rfl ?_
        refine x_iload_n dX2_chainFrom_44 4 rfl rfl ?_
        refine x_icmp_le (tgt := 53) dX2_chainFrom_45 (by decide) (fun c2 => ?_) (fun c2 => ?_)
        · have c2 := nLe (by omega) (by omega) c2
          have hs : mx F (i + 1) = mx F i := by show Nat.max (mx F i) (F i) = _; rw [hFi]; exact Nat.max_eq_left c2
          refine x_iload_n dX2_chainFrom_53 4 rfl rfl ?_
          refine x_istore_n (i := 3) (L' := [(3, .int (nI (mx F i))), (5, .int (nI (chN f S i))), (0, .ref a), (1, .int (nI m)), (2, .int z), (4, .int (nI i))]) dX2_chainFrom_54 rfl (by decide) rfl ?_
          refine x_iinc (i := 4) (q := 5) (v := nI (i + 1)) (L' := [(4, .int (nI (i + 1))), (3, .int (nI (mx F i))), (5, .int (nI (chN f S i))), (0, .ref a), (1, .int (nI m)), (2, .int z)]) dX2_chainFrom_55 rfl (nI_1 _) (by decide) rfl ?_
          refine x_goto (tgt := 11) dX2_chainFrom_58 (by decide) ?_
          refine x_locs (L' := [(0, .ref a), (1, .int (nI m)), (2, .int z), (3, .int (nI (mx F i))), (4, .int (nI (i + 1)))]) [3, 4, 5, 1, 0] rfl ?_
          have := ihd (i + 1) (by omega)
          rw [hs] at this
          exact this
        · have c2 := nNle (by omega) (by omega) c2
          have hs : mx F (i + 1) = chN f S i := by show Nat.max (mx F i) (F i) = _; rw [hFi]; exact Nat.max_eq_right (Nat.le_of_lt c2)
          refine x_iload dX2_chainFrom_48 0 rfl ?_
          refine x_goto (tgt := 54) dX2_chainFrom_50 (by decide) ?_
          refine x_istore_n (i := 3) (L' := [(3, .int (nI (chN f S i))), (5, .int (nI (chN f S i))), (0, .ref a), (1, .int (nI m)), (2, .int z), (4, .int (nI i))]) dX2_chainFrom_54 rfl (by decide) rfl ?_
          refine x_iinc (i := 4) (q := 5) (v := nI (i + 1)) (L' := [(4, .int (nI (i + 1))), (3, .int (nI (chN f S i))), (5, .int (nI (chN f S i))), (0, .ref a), (1, .int (nI m)), (2, .int z)]) dX2_chainFrom_55 rfl (nI_1 _) (by decide) rfl ?_
          refine x_goto (tgt := 11) dX2_chainFrom_58 (by decide) ?_
          refine x_locs (L' := [(0, .ref a), (1, .int (nI m)), (2, .int z), (3, .int (nI (chN f S i))), (4, .int (nI (i + 1)))]) [3, 4, 5, 1, 0] rfl ?_
          have := ihd (i + 1) (by omega)
          rw [hs] at this
          exact this
      · have c1 := bI_0 c1
        have hs : mx F (i + 1) = mx F i := by show Nat.max (mx F i) (F i) = _; rw [hFi, c1]; exact Nat.max_eq_left (Nat.zero_le _)
        refine x_goto (tgt := 55) dX2_chainFrom_31 (by decide) ?_
        refine x_iinc (i := 4) (q := 4) (v := nI (i + 1)) (L' := [(4, .int (nI (i + 1))), (0, .ref a), (1, .int (nI m)), (2, .int z), (3, .int (nI (mx F i)))]) dX2_chainFrom_55 rfl (nI_1 _) (by decide) rfl ?_
        refine x_goto (tgt := 11) dX2_chainFrom_58 (by decide) ?_
        refine x_locs (L' := [(0, .ref a), (1, .int (nI m)), (2, .int z), (3, .int (nI (mx F i))), (4, .int (nI (i + 1)))]) [1, 2, 3, 4, 0] rfl ?_
        have := ihd (i + 1) (by omega)
        rw [hs] at this
        exact this
set_option maxHeartbeats 4000000 in
set_option maxRecDepth 100000 in
theorem con_X2_chain {l : Launch} {G : YG} {σ : AH} {a : Nat} {ad : Nat → Nat} {M : MS} {S : AS} {v : Int32} (hM : MAt σ a ad M) (hG : GR (M.1 0) S) (hI : IV S) (hA : NoRing S) : Con l yX2_chain cX2_chain 2 (some FieldType.int) G 27 0 0 [.ref a, .int v] σ (PS σ (qChain S v)) := by
  refine con_of (by decide) (Nat.le_of_ble_eq_true rfl) ?_
  refine x_locs (L' := [(0, .ref a), (1, .int v)]) [0, 1] rfl ?_
  refine x_aload_n dX2_chain_0 0 rfl rfl ?_
  refine x_iload_n dX2_chain_1 1 rfl rfl ?_
  refine x_callV dX2_chain_2 (con_X2_isMaid hM hG hI (v := v)) (lw_V q1959 q1961 qs43 q101 q1962) (np := 1) (by decide +kernel) rfl (rcv_of vC_2 hM.1) ⟨Nat.le_of_ble_eq_true rfl, Nat.le_of_ble_eq_true rfl⟩ (Nat.le_of_ble_eq_true rfl) rfl (by decide) (by decide) (rS ?_) nI'
  refine x_if_eq (tgt := 16) dX2_chain_5 (by decide) (fun c1 => ?_) (fun c1 => ?_)
  · have c1 := bI_0 c1
    have hco : qChain S v = (-11) := by unfold qChain; rw [c1]; rfl
    refine x_bipush (v := (-11)) dX2_chain_16 (by decide) ?_
    exact x_iret dX2_chain_18 rfl (pS' (by rw [hco]))
  · have c1 := bI_1 c1
    obtain ⟨m, hm, rfl, hvn, htm⟩ := isT_of hI.c c1
    have hm24 : m < 24 := by have := hI.c; omega
    refine x_aload_n dX2_chain_8 0 rfl rfl ?_
    refine x_iload_n dX2_chain_9 1 rfl rfl ?_
    refine x_callV dX2_chain_10 (con_X2_chainFrom hM hG hI hA (f := 25) (m := m) (by decide) hm (by have := rk_le (S := S) (m := m); omega)) (lw_V q2118 q2120 qs69 q101 q2121) (np := 1) (by decide +kernel) rfl (rcv_of vC_2 hM.1) ⟨Nat.le_of_ble_eq_true rfl, Nat.le_of_ble_eq_true rfl⟩ (Nat.le_of_ble_eq_true rfl) rfl (by decide) (by decide) (rS ?_) nI'
    refine x_goto (tgt := 18) dX2_chain_13 (by decide) ?_
    exact x_iret dX2_chain_18 rfl (pS' (by unfold qChain; rw [c1, show iN (nI m) = m from hvn]; rfl))
