set_option maxRecDepth 100000
set_option maxHeartbeats 4000000 in
set_option maxRecDepth 100000 in
theorem con_X1_waiting_2 {l : Launch} {G : YG} {σ : AH} {a : Nat} {ad : Nat → Nat} {N : Nat → NL} {mc : Nat → Int32} {S : AS}  (hL : LD σ a ad N mc S)  : Con l yX1_waiting_2 cX1_waiting_2 4 (some FieldType.int) G 4 1 4 [.ref a] σ (PRO σ (nI (nW S))) := by
  refine con_of (by decide) (Nat.le_of_ble_eq_true rfl) ?_
  refine x_locs (L' := [(0, .ref a)]) [0] rfl ?_
  have ho := hL.o
  have hL0 := hL
  refine x_iconst (v := nI 0) dX1_waiting_2_0 (by decide) ?_
  refine x_istore_n (i := 1) (L' := [(1, .int (nI 0)), (0, .ref a)]) dX1_waiting_2_1 rfl (by decide) rfl ?_
  refine x_aload_n dX1_waiting_2_2 1 rfl rfl ?_
  refine x_get dX1_waiting_2_3 vC_1 in_X1 ho 1 (by decide) q279 rfl ?_
  refine x_callV dX1_waiting_2_6 (con_J2_iterator hL.al) (lw_V q1807 q1196 q2270 q89 q1198) (np := 0) (by decide +kernel) rfl hL.al.rc ⟨Nat.le_of_ble_eq_true rfl, Nat.le_of_ble_eq_true rfl⟩ (Nat.le_of_ble_eq_true rfl) rfl (by omega) (by omega) (rA fun z σ1 h1 => ?_) nA'
  obtain ⟨zn, zI, hR⟩ := h1
  refine x_astore_n (i := 2) (L' := [(2, .ref z), (1, .int (nI 0)), (0, .ref a)]) dX1_waiting_2_9 rfl (by decide) rfl ?_
  refine x_locs (L' := [(0, .ref a), (1, .int (nI 0)), (2, .ref z)]) [2, 1, 0] rfl ?_
  suffices loop : ∀ (d j : Nat) (τ : AH) (k n : Nat), j + d = 8 → RO σ τ → QI τ z (ad 1) 8 j → X l yX1_waiting_2 cX1_waiting_2 4 (some FieldType.int) [] G (yroom 4 1 4) (yEnd G (yroom 4 1 4) (PRO σ (nI (nW S)))) 10 [(0, .ref a), (1, .int (nI (sm (fun s => (qu S s).length) j))), (2, .ref z)] [] τ k n from loop 8 0 _ _ _ rfl hR zI
  intro d
  induction d with
  | zero =>
    intro j τ k n hj hR hz
    have hj8 : j = 8 := by omega
    subst hj8
    have hL := hL0.ro hR
    have hz0 := hz
    obtain ⟨lr, hzc⟩ := hz
    refine x_aload_n dX1_waiting_2_10 2 rfl rfl ?_
    refine x_callF dX1_waiting_2_11 (con_J16_hasNext hL.al hz0 (by rw [lYs_len]; omega)) (lw_F q509 q540 q542 q106 q544) q511 q510 q543 q541 q539 (np := 0) (by decide +kernel) rfl vC_14 hzc ⟨Nat.le_of_ble_eq_true rfl, Nat.le_of_ble_eq_true rfl⟩ (Nat.le_of_ble_eq_true rfl) rfl (Nat.zero_le _) (Nat.zero_le _) (rS ?_) nI'
    refine x_top (x' := 0) (by rw [lYs_len]; rfl) ?_
    refine x_if_eq (tgt := 39) dX1_waiting_2_16 (by decide) (fun _ => ?_) (fun h_ => absurd (rfl) h_)
    refine x_iload_n dX1_waiting_2_39 1 rfl rfl ?_
    exact x_iret dX1_waiting_2_40 rfl (pRo rfl hR)
  | succ d ih =>
    intro j τ k n hj hR hz
    have hj8 : j < 8 := by omega
    have hL := hL0.ro hR
    have hz0 := hz
    obtain ⟨lr, hzc⟩ := hz
    refine x_aload_n dX1_waiting_2_10 2 rfl rfl ?_
    refine x_callF dX1_waiting_2_11 (con_J16_hasNext hL.al hz0 (by rw [lYs_len]; omega)) (lw_F q509 q540 q542 q106 q544) q511 q510 q543 q541 q539 (np := 0) (by decide +kernel) rfl vC_14 hzc ⟨Nat.le_of_ble_eq_true rfl, Nat.le_of_ble_eq_true rfl⟩ (Nat.le_of_ble_eq_true rfl) rfl (Nat.zero_le _) (Nat.zero_le _) (rS ?_) nI'
    refine x_top (x' := 1) (by rw [lYs_len, decide_eq_true hj8]; rfl) ?_
    refine x_if_eq (tgt := 39) dX1_waiting_2_16 (by decide) (fun h_ => absurd h_ (by decide)) (fun _ => ?_)
    refine x_aload_n dX1_waiting_2_19 2 rfl rfl ?_
    refine x_callF dX1_waiting_2_20 (con_J16_next hL.al hz0 (lYs_at hj8)) (lw_F q555 q892 q894 q106 q896) q557 q556 q895 q893 q539 (np := 0) (by decide +kernel) rfl vC_14 hzc ⟨Nat.le_of_ble_eq_true rfl, Nat.le_of_ble_eq_true rfl⟩ (Nat.le_of_ble_eq_true rfl) rfl (Nat.zero_le _) (Nat.zero_le _) (rA fun u σ4 h2 => ?_) nA'
    obtain ⟨rfl, hz, hU⟩ := h2
    have hR := hR.nx zn hU
    have hL := hL0.ro hR
    refine x_ckcast dX1_waiting_2_25 q183 (hL.ll hj8).rc ?_
    refine x_astore_n (i := 3) (L' := [(3, .ref (ad (10 + j))), (0, .ref a), (1, .int (nI (sm (fun s => (qu S s).length) j))), (2, .ref z)]) dX1_waiting_2_28 rfl (by decide) rfl ?_
    refine x_iload_n dX1_waiting_2_29 2 rfl rfl ?_
    refine x_aload_n dX1_waiting_2_30 0 rfl rfl ?_
    refine x_callV dX1_waiting_2_31 (con_J4_size (hL.ll hj8)) (lw_V q997 q531 q2258 q91 q532) (np := 0) (by decide +kernel) rfl (hL.ll hj8).rc ⟨Nat.le_of_ble_eq_true rfl, Nat.le_of_ble_eq_true rfl⟩ (Nat.le_of_ble_eq_true rfl) rfl (Nat.zero_le _) (Nat.zero_le _) (rS ?_) nI'
    refine x_top (x' := nI (qu S j).length) (congrArg nI (hL.len hj8)) ?_
    refine x_iadd dX1_waiting_2_34 ?_
    refine x_top (x' := nI (sm (fun s => (qu S s).length) j + ((qu S j).length))) (nI_add _ _) ?_
    refine x_istore_n (i := 1) (L' := [(1, .int (nI (sm (fun s => (qu S s).length) j + ((qu S j).length)))), (3, .ref (ad (10 + j))), (0, .ref a), (2, .ref z)]) dX1_waiting_2_35 rfl (by decide) rfl ?_
    refine x_goto (tgt := 10) dX1_waiting_2_36 (by decide) ?_
    refine x_locs (L' := [(0, .ref a), (1, .int (nI (sm (fun s => (qu S s).length) j + ((qu S j).length)))), (2, .ref z)]) [2, 0, 3] rfl ?_
    exact ih (j + 1) _ _ _ (by omega) hR hz
set_option maxHeartbeats 4000000 in
set_option maxRecDepth 100000 in
theorem con_X1_locks {l : Launch} {G : YG} {σ : AH} {a : Nat} {ad : Nat → Nat} {N : Nat → NL} {mc : Nat → Int32} {S : AS} {t : Nat} {b : Bool} (hL : LD σ a ad N mc S) (hI : IV S) (ht9 : t = if b then 2 else 1) : Con l yX1_locks cX1_locks 9 (some FieldType.int) G 5 2 3 [.ref a, .int (bI b)] σ (PRO σ (nI (lkN S t))) := by
  refine con_of (by decide) (Nat.le_of_ble_eq_true rfl) ?_
  refine x_locs (L' := [(0, .ref a), (1, .int (bI b))]) [0, 1] rfl ?_
  have ho := hL.o
  have hL0 := hL
  obtain ⟨P, hP⟩ : ∃ P : Nat → Nat, P = fun m => cn (fun s => decide (t ≤ hw S m s)) 8 := ⟨_, rfl⟩
  have hlk : lkN S t = sm P 24 := by rw [hP]; rfl
  rw [hlk]
  refine x_iconst (v := nI 0) dX1_locks_0 (by decide) ?_
  refine x_istore_n (i := 2) (L' := [(2, .int (nI 0)), (0, .ref a), (1, .int (bI b))]) dX1_locks_1 rfl (by decide) rfl ?_
  refine x_aload_n dX1_locks_2 1 rfl rfl ?_
  refine x_callV dX1_locks_3 (con_X1_maids hL) (lw_V q1130 q1131 q1132 q86 q1133) (np := 0) (by decide +kernel) rfl (rcv_of vC_1 ho) ⟨Nat.le_of_ble_eq_true rfl, Nat.le_of_ble_eq_true rfl⟩ (Nat.le_of_ble_eq_true rfl) rfl (by omega) (by omega) (rA fun it2 σ3 hm1 => ?_) nA'
  obtain ⟨it2n, it2c, it2u⟩ := hm1
  have hL := hL.ro (ro_new it2n it2u)
  have ho := hL.o
  refine x_callF dX1_locks_6 (con_X5_iterator it2c) (lw_F q1148 q1152 q1154 q120 q1156) q1150 q1149 q1155 q1153 q1151 (np := 0) (by decide +kernel) rfl vC_5 it2c ⟨Nat.le_of_ble_eq_true rfl, Nat.le_of_ble_eq_true rfl⟩ (Nat.le_of_ble_eq_true rfl) rfl (by omega) (by omega) (rA fun it0 σ5 hm4 => ?_) nA'
  obtain ⟨it0n0, it0c, it0u⟩ := hm4
  have hL := hL.ro (ro_new it0n0 it0u)
  have ho := hL.o
  have it0n : σ it0 = none := ((RO.rf).tr (ro_new it2n it2u)).nn it0n0
  have hRit0 := ((RO.rf).tr (ro_new it2n it2u)).tr (ro_new it0n0 it0u)
  refine x_astore_n (i := 3) (L' := [(3, .ref it0), (2, .int (nI 0)), (0, .ref a), (1, .int (bI b))]) dX1_locks_11 rfl (by decide) rfl ?_
  refine x_locs (L' := [(0, .ref a), (1, .int (bI b)), (2, .int (nI 0)), (3, .ref it0)]) [2, 3, 1, 0] rfl ?_
  suffices loop : ∀ (d j : Nat) (τ : AH) (z : Int32) (k n : Nat), j + d = 24 → RO σ τ → τ it0 = some (.inr (6, [.int z])) → BS z (fun i => decide (j ≤ i) && tH S i) → X l yX1_locks cX1_locks 9 (some FieldType.int) [] G (yroom 5 2 3) (yEnd G (yroom 5 2 3) (PRO σ (nI (sm P 24)))) 12 [(0, .ref a), (1, .int (bI b)), (2, .int (nI (sm P j))), (3, .ref it0)] [] τ k n from loop 24 0 _ _ _ _ (Nat.zero_add _) (hRit0) it0c (encB_BS _) 
  intro d
  induction d with
  | zero =>
    intro j τ z k n hj hR hc hz
    have hL := hL0.ro hR
    have ho := hL.o
    have hj24 : j = 24 := by omega
    subst hj24
    have hz0 : z = 0 := hz.zero_iff.mpr (fun i hi => by rw [decide_eq_false (by omega)]; rfl)
    refine x_aload_n dX1_locks_12 3 rfl rfl ?_
    refine x_callF dX1_locks_13 (con_X6_hasNext hc) (lw_F q509 q513 q515 q121 q517) q511 q510 q516 q514 q512 (np := 0) (by decide +kernel) rfl vC_6 hc ⟨Nat.le_of_ble_eq_true rfl, Nat.le_of_ble_eq_true rfl⟩ (Nat.le_of_ble_eq_true rfl) rfl (Nat.zero_le _) (Nat.zero_le _) (rS ?_) nI'
    refine x_top (x' := 0) (by rw [hz0]; rfl) ?_
    refine x_if_eq (tgt := 98) dX1_locks_18 (by decide) (fun _ => ?_) (fun h_ => absurd (rfl) h_)
    refine x_iload_n dX1_locks_98 2 rfl rfl ?_
    exact x_iret dX1_locks_99 rfl (pRo rfl hR)
  | succ d ih =>
    intro j τ z k n hj hR hc hz
    have hL := hL0.ro hR
    have ho := hL.o
    by_cases ht : tH S j = true
    · have hjC := hI.th ht
      have hC := hI.c
      have hfj : (decide (j ≤ j) && tH S j) = true := by rw [ht]; simp
      have hlo : ∀ i, i < j → (decide (j ≤ i) && tH S i) = false := fun i hi => by rw [decide_eq_false (by omega)]; rfl
      have hzn : z ≠ 0 := fun e => by have := hz.zero_iff.mp e j (by omega); rw [hfj] at this; cases this
      refine x_aload_n dX1_locks_12 3 rfl rfl ?_
      refine x_callF dX1_locks_13 (con_X6_hasNext hc) (lw_F q509 q513 q515 q121 q517) q511 q510 q516 q514 q512 (np := 0) (by decide +kernel) rfl vC_6 hc ⟨Nat.le_of_ble_eq_true rfl, Nat.le_of_ble_eq_true rfl⟩ (Nat.le_of_ble_eq_true rfl) rfl (Nat.zero_le _) (Nat.zero_le _) (rS ?_) nI'
      refine x_top (x' := 1) (by rw [decide_eq_true hzn]; rfl) ?_
      refine x_if_eq (tgt := 98) dX1_locks_18 (by decide) (fun h_ => absurd h_ (by decide)) (fun _ => ?_)
      refine x_aload_n dX1_locks_21 3 rfl rfl ?_
      refine x_callF dX1_locks_22 (con_X6_next hc hz (by omega) hfj hlo) (lw_F q555 q558 q560 q121 q562) q557 q556 q561 q559 q512 (np := 0) (by decide +kernel) rfl vC_6 hc ⟨Nat.le_of_ble_eq_true rfl, Nat.le_of_ble_eq_true rfl⟩ (Nat.le_of_ble_eq_true rfl) rfl (Nat.zero_le _) (Nat.zero_le _) (rA fun u σ9 h8 => ?_) nA'
      obtain ⟨rfl, hc, hbu⟩ := h8
      have hR := hR.nx it0n hbu
      have hL := hL0.ro hR
      have ho := hL.o
      have hz := BS.stepT hz (by omega) hfj hlo
      refine x_ckcast dX1_locks_27 q1211 (bx_rc (by omega)) ?_
      refine x_callV dX1_locks_30 (con_J20_intValue (n := j) (by omega)) (lw_V q1212 q1213 q1214 q110 q1215) (np := 0) (by decide +kernel) rfl (bx_rc (by omega)) ⟨Nat.le_of_ble_eq_true rfl, Nat.le_of_ble_eq_true rfl⟩ (Nat.le_of_ble_eq_true rfl) rfl (Nat.zero_le _) (Nat.zero_le _) (rS ?_) nI'
      obtain ⟨fr, hfr, hfv⟩ := hL.row (m := j) (by omega)
      have hPj : P j = cn (fun s => decide (t ≤ hw S j s)) 8 := by rw [hP]
      refine x_istore (i := 4) (L' := [(4, .int (nI j)), (0, .ref a), (1, .int (bI b)), (2, .int (nI (sm P j))), (3, .ref it0)]) dX1_locks_33 (by decide) rfl ?_
      refine x_aload_n dX1_locks_35 1 rfl rfl ?_
      refine x_get dX1_locks_36 vC_1 in_X1 ho 0 (by decide) q277 rfl ?_
      refine x_iload dX1_locks_39 0 rfl ?_
      obtain ⟨fh11, hh12, hv13⟩ := hL.2.1
      refine x_aald7 (N := 24) (j := j) dX1_locks_41 hh12 rfl (by omega) (by decide) (hv13 _ (by omega)) ?_
      refine x_astore (i := 5) (L' := [(5, .ref (ad (20 + j))), (4, .int (nI j)), (0, .ref a), (1, .int (bI b)), (2, .int (nI (sm P j))), (3, .ref it0)]) dX1_locks_42 (by decide) rfl ?_
      refine x_aload dX1_locks_44 0 rfl ?_
      refine x_alen (N := 0) (q0 := 1) (v := nI 8) dX1_locks_46 hfr rfl rfl ?_
      refine x_istore (i := 6) (L' := [(6, .int (nI 8)), (5, .ref (ad (20 + j))), (4, .int (nI j)), (0, .ref a), (1, .int (bI b)), (2, .int (nI (sm P j))), (3, .ref it0)]) dX1_locks_47 (by decide) rfl ?_
      refine x_iconst (v := nI 0) dX1_locks_49 (by decide) ?_
      refine x_istore (i := 7) (L' := [(7, .int (nI 0)), (6, .int (nI 8)), (5, .ref (ad (20 + j))), (4, .int (nI j)), (0, .ref a), (1, .int (bI b)), (2, .int (nI (sm P j))), (3, .ref it0)]) dX1_locks_50 (by decide) rfl ?_
      refine x_locs (L' := [(0, .ref a), (1, .int (bI b)), (2, .int (nI (sm P j))), (3, .ref it0), (5, .ref (ad (20 + j))), (6, .int (nI 8)), (7, .int (nI 0))]) [4, 5, 6, 7, 2, 1, 0] rfl ?_
      suffices inner : ∀ (e i : Nat) (k n : Nat), i + e = 8 → X l yX1_locks cX1_locks 9 (some FieldType.int) [] G (yroom 5 2 3) (yEnd G (yroom 5 2 3) (PRO σ (nI (sm P 24)))) 52 [(0, .ref a), (1, .int (bI b)), (2, .int (nI (sm P j + cn (fun s => decide (t ≤ hw S j s)) i))), (3, .ref it0), (5, .ref (ad (20 + j))), (6, .int (nI 8)), (7, .int (nI i))] [] σ9 k n from inner 8 0 _ _ rfl
      intro e
      induction e with
      | zero =>
        intro i k n hi
        have hi8 : i = 8 := by omega
        subst hi8
        refine x_iload dX1_locks_52 6 rfl ?_
        refine x_iload dX1_locks_54 5 rfl ?_
        refine x_icmp_ge (tgt := 95) dX1_locks_56 (by decide) (fun _ => ?_) (fun h_ => absurd (by decide) h_)
        refine x_goto (tgt := 12) dX1_locks_95 (by decide) ?_
        refine x_locs (L' := [(0, .ref a), (1, .int (bI b)), (2, .int (nI (sm P j + cn (fun s => decide (t ≤ hw S j s)) 8))), (3, .ref it0)]) [0, 1, 2, 3] rfl ?_
        rw [← hPj]
        exact ih (j + 1) _ _ _ _ (by omega) hR hc hz
      | succ e ihe =>
        intro i k n hi
        have hi8 : i < 8 := by omega
        have h2 := hI.2.2.1 j i
        refine x_iload dX1_locks_52 6 rfl ?_
        refine x_iload dX1_locks_54 5 rfl ?_
        refine x_icmp_ge (tgt := 95) dX1_locks_56 (by decide) (fun h_ => absurd h_ (fun h => absurd (nLe (by omega) (by omega) h) (by omega))) (fun _ => ?_)
        refine x_aload dX1_locks_59 4 rfl ?_
        refine x_iload dX1_locks_61 6 rfl ?_
        obtain ⟨fr14, hr15, hw16⟩ := hL.row (m := j) (by omega)
        refine x_sald (N := 8) (j := i) (v := nI (hw S j i)) dX1_locks_63 hr15 rfl (hi8) (by decide) (hw16 _ (hi8)) ?_
        refine x_istore (i := 8) (L' := [(8, .int (nI (hw S j i))), (0, .ref a), (1, .int (bI b)), (2, .int (nI (sm P j + cn (fun s => decide (t ≤ hw S j s)) i))), (3, .ref it0), (5, .ref (ad (20 + j))), (6, .int (nI 8)), (7, .int (nI i))]) dX1_locks_64 (by decide) rfl ?_
        refine x_iload_n dX1_locks_66 3 rfl rfl ?_
        refine x_iload dX1_locks_67 0 rfl ?_
        refine x_iconst (v := nI 2) dX1_locks_69 (by decide) ?_
        refine x_icmp_eq (tgt := 82) dX1_locks_70 (by decide) (fun c1 => ?_) (fun c1 => ?_)
        · have c1 : hw S j i = 2 := nEq (by omega) (by omega) c1
          have hs := cn_t (f := fun s => decide (t ≤ hw S j s)) (i := i) (decide_eq_true (by rw [c1, ht9]; split <;> omega))
          refine x_iconst (v := nI 1) dX1_locks_82 (by decide) ?_
          refine x_goto (tgt := 87) dX1_locks_83 (by decide) ?_
          refine x_iadd dX1_locks_87 ?_
          refine x_top (x' := nI (sm P j + cn (fun s => decide (t ≤ hw S j s)) i + 1)) (nI_add _ _) ?_
          refine x_istore_n (i := 2) (L' := [(2, .int (nI (sm P j + cn (fun s => decide (t ≤ hw S j s)) i + 1))), (8, .int (nI (hw S j i))), (0, .ref a), (1, .int (bI b)), (3, .ref it0), (5, .ref (ad (20 + j))), (6, .int (nI 8)), (7, .int (nI i))]) dX1_locks_88 rfl (by decide) rfl ?_
          refine x_iinc (i := 7) (q := 7) (v := nI (i + 1)) (L' := [(7, .int (nI (i + 1))), (2, .int (nI (sm P j + cn (fun s => decide (t ≤ hw S j s)) i + 1))), (8, .int (nI (hw S j i))), (0, .ref a), (1, .int (bI b)), (3, .ref it0), (5, .ref (ad (20 + j))), (6, .int (nI 8))]) dX1_locks_89 rfl (nI_1 _) (by decide) rfl ?_
          refine x_goto (tgt := 52) dX1_locks_92 (by decide) ?_
          refine x_locs (L' := [(0, .ref a), (1, .int (bI b)), (2, .int (nI (sm P j + cn (fun s => decide (t ≤ hw S j s)) i + 1))), (3, .ref it0), (5, .ref (ad (20 + j))), (6, .int (nI 8)), (7, .int (nI (i + 1)))]) [3, 4, 1, 5, 6, 7, 0] rfl ?_
          rw [Nat.add_assoc, ← hs]
          exact ihe (i + 1) k n (by omega)
        · have c1 : hw S j i ≠ 2 := nNe (by omega) (by omega) c1
          refine x_iload dX1_locks_73 0 rfl ?_
          refine x_if_eq (tgt := 86) dX1_locks_75 (by decide) (fun c2 => ?_) (fun c2 => ?_)
          · have c2 := n0 (by omega) c2
            have hs := cn_f0 (f := fun s => decide (t ≤ hw S j s)) (i := i) (decide_eq_false (by rw [c2, ht9]; split <;> omega))
            refine x_iconst (v := nI 0) dX1_locks_86 (by decide) ?_
            refine x_iadd dX1_locks_87 ?_
            refine x_top (x' := nI (sm P j + cn (fun s => decide (t ≤ hw S j s)) i + 0)) (nI_add _ _) ?_
            refine x_istore_n (i := 2) (L' := [(2, .int (nI (sm P j + cn (fun s => decide (t ≤ hw S j s)) i + 0))), (8, .int (nI (hw S j i))), (0, .ref a), (1, .int (bI b)), (3, .ref it0), (5, .ref (ad (20 + j))), (6, .int (nI 8)), (7, .int (nI i))]) dX1_locks_88 rfl (by decide) rfl ?_
            refine x_iinc (i := 7) (q := 7) (v := nI (i + 1)) (L' := [(7, .int (nI (i + 1))), (2, .int (nI (sm P j + cn (fun s => decide (t ≤ hw S j s)) i + 0))), (8, .int (nI (hw S j i))), (0, .ref a), (1, .int (bI b)), (3, .ref it0), (5, .ref (ad (20 + j))), (6, .int (nI 8))]) dX1_locks_89 rfl (nI_1 _) (by decide) rfl ?_
            refine x_goto (tgt := 52) dX1_locks_92 (by decide) ?_
            refine x_locs (L' := [(0, .ref a), (1, .int (bI b)), (2, .int (nI (sm P j + cn (fun s => decide (t ≤ hw S j s)) i + 0))), (3, .ref it0), (5, .ref (ad (20 + j))), (6, .int (nI 8)), (7, .int (nI (i + 1)))]) [3, 4, 1, 5, 6, 7, 0] rfl ?_
            rw [Nat.add_zero, ← hs]
            exact ihe (i + 1) k n (by omega)
          · have c2 := nN0 c2
            refine x_iload_n dX1_locks_78 2 rfl rfl ?_
            refine x_if_ne (tgt := 86) dX1_locks_79 (by decide) (fun c3 => ?_) (fun c3 => ?_)
            · have c3 := bI_1 c3
              have hs := cn_f0 (f := fun s => decide (t ≤ hw S j s)) (i := i) (decide_eq_false (by rw [ht9, c3]; show ¬ 2 ≤ _; omega))
              refine x_iconst (v := nI 0) dX1_locks_86 (by decide) ?_
              refine x_iadd dX1_locks_87 ?_
              refine x_top (x' := nI (sm P j + cn (fun s => decide (t ≤ hw S j s)) i + 0)) (nI_add _ _) ?_
              refine x_istore_n (i := 2) (L' := [(2, .int (nI (sm P j + cn (fun s => decide (t ≤ hw S j s)) i + 0))), (8, .int (nI (hw S j i))), (0, .ref a), (1, .int (bI b)), (3, .ref it0), (5, .ref (ad (20 + j))), (6, .int (nI 8)), (7, .int (nI i))]) dX1_locks_88 rfl (by decide) rfl ?_
              refine x_iinc (i := 7) (q := 7) (v := nI (i + 1)) (L' := [(7, .int (nI (i + 1))), (2, .int (nI (sm P j + cn (fun s => decide (t ≤ hw S j s)) i + 0))), (8, .int (nI (hw S j i))), (0, .ref a), (1, .int (bI b)), (3, .ref it0), (5, .ref (ad (20 + j))), (6, .int (nI 8))]) dX1_locks_89 rfl (nI_1 _) (by decide) rfl ?_
              refine x_goto (tgt := 52) dX1_locks_92 (by decide) ?_
              refine x_locs (L' := [(0, .ref a), (1, .int (bI b)), (2, .int (nI (sm P j + cn (fun s => decide (t ≤ hw S j s)) i + 0))), (3, .ref it0), (5, .ref (ad (20 + j))), (6, .int (nI 8)), (7, .int (nI (i + 1)))]) [3, 4, 1, 5, 6, 7, 0] rfl ?_
              rw [Nat.add_zero, ← hs]
              exact ihe (i + 1) k n (by omega)
            · have c3 := bI_0 c3
              have hs := cn_t (f := fun s => decide (t ≤ hw S j s)) (i := i) (decide_eq_true (by rw [ht9, c3]; show 1 ≤ _; omega))
              refine x_iconst (v := nI 1) dX1_locks_82 (by decide) ?_
              refine x_goto (tgt := 87) dX1_locks_83 (by decide) ?_
              refine x_iadd dX1_locks_87 ?_
              refine x_top (x' := nI (sm P j + cn (fun s => decide (t ≤ hw S j s)) i + 1)) (nI_add _ _) ?_
              refine x_istore_n (i := 2) (L' := [(2, .int (nI (sm P j + cn (fun s => decide (t ≤ hw S j s)) i + 1))), (8, .int (nI (hw S j i))), (0, .ref a), (1, .int (bI b)), (3, .ref it0), (5, .ref (ad (20 + j))), (6, .int (nI 8)), (7, .int (nI i))]) dX1_locks_88 rfl (by decide) rfl ?_
              refine x_iinc (i := 7) (q := 7) (v := nI (i + 1)) (L' := [(7, .int (nI (i + 1))), (2, .int (nI (sm P j + cn (fun s => decide (t ≤ hw S j s)) i + 1))), (8, .int (nI (hw S j i))), (0, .ref a), (1, .int (bI b)), (3, .ref it0), (5, .ref (ad (20 + j))), (6, .int (nI 8))]) dX1_locks_89 rfl (nI_1 _) (by decide) rfl ?_
              refine x_goto (tgt := 52) dX1_locks_92 (by decide) ?_
              refine x_locs (L' := [(0, .ref a), (1, .int (bI b)), (2, .int (nI (sm P j + cn (fun s => decide (t ≤ hw S j s)) i + 1))), (3, .ref it0), (5, .ref (ad (20 + j))), (6, .int (nI 8)), (7, .int (nI (i + 1)))]) [3, 4, 1, 5, 6, 7, 0] rfl ?_
              rw [Nat.add_assoc, ← hs]
              exact ihe (i + 1) k n (by omega)
    · have hf : tH S j = false := by cases h : tH S j; rfl; exact absurd h ht
      have hPj : P j = 0 := by
        rw [hP]
        show cn (fun s => decide (t ≤ hw S j s)) 8 = 0
        have h0 : ∀ s, hw S j s = 0 := fun s => by
          by_cases e : hw S j s = 0
          · exact e
          · rw [hI.2.2.2.1 j s e] at hf; cases hf
        have h1 : 1 ≤ t := by rw [ht9]; split <;> omega
        exact cn_hi (c := 0) (fun i _ => decide_eq_false (by rw [h0 i]; omega)) 8 (Nat.zero_le _)
      have hs : sm P (j + 1) = sm P j := by show sm P j + P j = _; rw [hPj]; rfl
      rw [← hs]
      exact ih (j + 1) _ _ _ _ (by omega) hR hc (hz.stepF hf)
set_option maxHeartbeats 4000000 in
set_option maxRecDepth 100000 in
theorem con_X1_unheld {l : Launch} {G : YG} {σ : AH} {a : Nat} {ad : Nat → Nat} {N : Nat → NL} {mc : Nat → Int32} {S : AS}  (hL : LD σ a ad N mc S) (hI : IV S) : Con l yX1_unheld cX1_unheld 3 (some FieldType.int) G 6 16 24 [.ref a] σ (PRO σ (nI (bareN S))) := by
  refine con_of (by decide) (Nat.le_of_ble_eq_true rfl) ?_
  refine x_locs (L' := [(0, .ref a)]) [0] rfl ?_
  have ho := hL.o
  have hL0 := hL
  obtain ⟨F, hF⟩ : ∃ F : Nat → Bool, F = fun s => cn (heldF S s) (nC S) == 0 := ⟨_, rfl⟩
  have hb : bareN S = cn F 8 := by unfold bareN; rw [hF]
  rw [hb]
  have hC := hI.c
  refine x_iconst (v := nI 0) dX1_unheld_0 (by decide) ?_
  refine x_istore_n (i := 1) (L' := [(1, .int (nI 0)), (0, .ref a)]) dX1_unheld_1 rfl (by decide) rfl ?_
  refine x_iconst (v := nI 0) dX1_unheld_2 (by decide) ?_
  refine x_istore_n (i := 2) (L' := [(2, .int (nI 0)), (1, .int (nI 0)), (0, .ref a)]) dX1_unheld_3 rfl (by decide) rfl ?_
  refine x_locs (L' := [(0, .ref a), (1, .int (nI 0)), (2, .int (nI 0))]) [2, 1, 0] rfl ?_
  suffices loop : ∀ (d i : Nat) (τ : AH) (k n : Nat), i + d = 8 → RO σ τ → d * 2 ≤ k → d * 3 ≤ n → X l yX1_unheld cX1_unheld 3 (some FieldType.int) [] G (yroom 6 16 24) (yEnd G (yroom 6 16 24) (PRO σ (nI (cn F 8)))) 4 [(0, .ref a), (1, .int (nI (cn F i))), (2, .int (nI i))] [] τ k n from loop 8 0 σ _ _ rfl RO.rf (by omega) (by omega)
  intro d
  induction d with
  | zero =>
    intro i τ k n hi hR hk0 hn0
    have hi8 : i = 8 := by omega
    subst hi8
    refine x_iload_n dX1_unheld_4 2 rfl rfl ?_
    refine x_bipush (v := nI 8) dX1_unheld_5 (by decide) ?_
    refine x_icmp_ge (tgt := 32) dX1_unheld_7 (by decide) (fun _ => ?_) (fun h_ => absurd (by decide) h_)
    refine x_iload_n dX1_unheld_32 1 rfl rfl ?_
    exact x_iret dX1_unheld_33 rfl (pRo rfl hR)
  | succ d ih =>
    intro i τ k n hi hR hk0 hn0
    have hi8 : i < 8 := by omega
    have hL := hL0.ro hR
    have ho := hL.o
    have hcb := cn_le (f := heldF S i) (n := nC S)
    have hFi : F i = (cn (heldF S i) (nC S) == 0) := by rw [hF]
    refine x_iload_n dX1_unheld_4 2 rfl rfl ?_
    refine x_bipush (v := nI 8) dX1_unheld_5 (by decide) ?_
    refine x_icmp_ge (tgt := 32) dX1_unheld_7 (by decide) (fun h_ => absurd h_ (fun h => absurd (nLe (by omega) (by omega) h) (by omega))) (fun _ => ?_)
    refine x_iload_n dX1_unheld_10 1 rfl rfl ?_
    refine x_aload_n dX1_unheld_11 0 rfl rfl ?_
    refine x_iload_n dX1_unheld_12 2 rfl rfl ?_
    refine x_callV dX1_unheld_13 (con_X1_holders hL hI hi8) (lw_V q1409 q1410 q1411 q86 q1412) (np := 1) (by decide +kernel) rfl (rcv_of vC_1 ho) ⟨Nat.le_of_ble_eq_true rfl, Nat.le_of_ble_eq_true rfl⟩ (Nat.le_of_ble_eq_true rfl) rfl (by omega) (by omega) (rP fun σ1 hR2 => ?_) nI'
    have hR := hR.tr hR2
    refine x_if_ne (tgt := 23) dX1_unheld_16 (by decide) (fun c1 => ?_) (fun c1 => ?_)
    · have c1 := nN0 c1
      have hs := cn_f0 (f := F) (i := i) (by rw [hFi]; simp [c1])
      refine x_iconst (v := nI 0) dX1_unheld_23 (by decide) ?_
      refine x_iadd dX1_unheld_24 ?_
      refine x_top (x' := nI (cn F i + 0)) (nI_add _ _) ?_
      refine x_istore_n (i := 1) (L' := [(1, .int (nI (cn F i + 0))), (0, .ref a), (2, .int (nI i))]) dX1_unheld_25 rfl (by decide) rfl ?_
      refine x_iinc (i := 2) (q := 2) (v := nI (i + 1)) (L' := [(2, .int (nI (i + 1))), (1, .int (nI (cn F i + 0))), (0, .ref a)]) dX1_unheld_26 rfl (nI_1 _) (by decide) rfl ?_
      refine x_goto (tgt := 4) dX1_unheld_29 (by decide) ?_
      refine x_locs (L' := [(0, .ref a), (1, .int (nI (cn F i + 0))), (2, .int (nI (i + 1)))]) [2, 1, 0] rfl ?_
      rw [Nat.add_zero, ← hs]
      exact ih (i + 1) _ _ _ (by omega) hR (by omega) (by omega)
    · have c1 := n0 (by omega) c1
      have hs := cn_t (f := F) (i := i) (by rw [hFi, c1]; rfl)
      refine x_iconst (v := nI 1) dX1_unheld_19 (by decide) ?_
      refine x_goto (tgt := 24) dX1_unheld_20 (by decide) ?_
      refine x_iadd dX1_unheld_24 ?_
      refine x_top (x' := nI (cn F i + 1)) (nI_add _ _) ?_
      refine x_istore_n (i := 1) (L' := [(1, .int (nI (cn F i + 1))), (0, .ref a), (2, .int (nI i))]) dX1_unheld_25 rfl (by decide) rfl ?_
      refine x_iinc (i := 2) (q := 2) (v := nI (i + 1)) (L' := [(2, .int (nI (i + 1))), (1, .int (nI (cn F i + 1))), (0, .ref a)]) dX1_unheld_26 rfl (nI_1 _) (by decide) rfl ?_
      refine x_goto (tgt := 4) dX1_unheld_29 (by decide) ?_
      refine x_locs (L' := [(0, .ref a), (1, .int (nI (cn F i + 1))), (2, .int (nI (i + 1)))]) [2, 1, 0] rfl ?_
      rw [← hs]
      exact ih (i + 1) _ _ _ (by omega) hR (by omega) (by omega)
set_option maxHeartbeats 4000000 in
set_option maxRecDepth 100000 in
theorem con_X1_sum {l : Launch} {G : YG} {σ : AH} {b N : Nat} {g : Nat → Nat} (ha : aI σ b N g) (hN : N < 1000) : Con l yX1_sum cX1_sum 6 (some FieldType.int) G 0 0 0 [.ref b] σ (PS σ (nI (sm g N))) := by
  refine con_of (by decide) (Nat.le_of_ble_eq_true rfl) ?_
  refine x_locs (L' := [(0, .ref b)]) [0] rfl ?_
  obtain ⟨f, hf, hfv⟩ := ha
  refine x_iconst (v := nI 0) dX1_sum_0 (by decide) ?_
  refine x_istore_n (i := 1) (L' := [(1, .int (nI 0)), (0, .ref b)]) dX1_sum_1 rfl (by decide) rfl ?_
  refine x_aload_n dX1_sum_2 1 rfl rfl ?_
  refine x_astore_n (i := 2) (L' := [(2, .ref b), (1, .int (nI 0)), (0, .ref b)]) dX1_sum_3 rfl (by decide) rfl ?_
  refine x_aload_n dX1_sum_4 0 rfl rfl ?_
  refine x_alen (N := 0) (q0 := 0) (v := nI N) dX1_sum_5 hf rfl rfl ?_
  refine x_istore_n (i := 3) (L' := [(3, .int (nI N)), (2, .ref b), (1, .int (nI 0)), (0, .ref b)]) dX1_sum_6 rfl (by decide) rfl ?_
  refine x_iconst (v := nI 0) dX1_sum_7 (by decide) ?_
  refine x_istore (i := 4) (L' := [(4, .int (nI 0)), (3, .int (nI N)), (2, .ref b), (1, .int (nI 0)), (0, .ref b)]) dX1_sum_8 (by decide) rfl ?_
  refine x_locs (L' := [(1, .int (nI 0)), (2, .ref b), (3, .int (nI N)), (4, .int (nI 0))]) [3, 2, 1, 0] rfl ?_
  suffices loop : ∀ (d i : Nat), i + d = N → X l yX1_sum cX1_sum 6 (some FieldType.int) [] G (yroom 0 0 0) (yEnd G (yroom 0 0 0) (PS σ (nI (sm g N)))) 10 [(1, .int (nI (sm g i))), (2, .ref b), (3, .int (nI N)), (4, .int (nI i))] [] σ 0 0 from loop (N) 0 (Nat.zero_add _)
  intro d
  induction d with
  | zero =>
    intro i hi
    have hin : i = N := by omega
    subst hin
    refine x_iload dX1_sum_10 3 rfl ?_
    refine x_iload_n dX1_sum_12 2 rfl rfl ?_
    refine x_icmp_ge (tgt := 33) dX1_sum_13 (by decide) (fun _ => ?_) (fun h_ => absurd ((nI_leI (by omega) (by omega)).mpr (Nat.le_refl _)) h_)
    refine x_iload_n dX1_sum_33 0 rfl rfl ?_
    exact x_iret dX1_sum_34 rfl (pS)
  | succ d ih =>
    intro i hi
    refine x_iload dX1_sum_10 3 rfl ?_
    refine x_iload_n dX1_sum_12 2 rfl rfl ?_
    refine x_icmp_ge (tgt := 33) dX1_sum_13 (by decide) (fun h_ => absurd h_ (fun h => absurd (nLe (by omega) (by omega) h) (by omega))) (fun _ => ?_)
    refine x_aload_n dX1_sum_16 1 rfl rfl ?_
    refine x_iload dX1_sum_17 3 rfl ?_
    refine x_iald (N := N) (j := i) (v := nI (g i)) dX1_sum_19 hf (rfl) (by omega) (by omega) (hfv i (by omega)) ?_
    refine x_istore (i := 5) (L' := [(5, .int (nI (g i))), (1, .int (nI (sm g i))), (2, .ref b), (3, .int (nI N)), (4, .int (nI i))]) dX1_sum_20 (by decide) rfl ?_
    refine x_iload_n dX1_sum_22 1 rfl rfl ?_
    refine x_iload dX1_sum_23 0 rfl ?_
    refine x_iadd dX1_sum_25 ?_
    refine x_top (x' := nI (sm g i + (g i))) (nI_add _ _) ?_
    refine x_istore_n (i := 1) (L' := [(1, .int (nI (sm g i + (g i)))), (5, .int (nI (g i))), (2, .ref b), (3, .int (nI N)), (4, .int (nI i))]) dX1_sum_26 rfl (by decide) rfl ?_
    refine x_iinc (i := 4) (q := 4) (v := nI (i + 1)) (L' := [(4, .int (nI (i + 1))), (1, .int (nI (sm g i + (g i)))), (5, .int (nI (g i))), (2, .ref b), (3, .int (nI N))]) dX1_sum_27 rfl (nI_1 _) (by decide) rfl ?_
    refine x_goto (tgt := 10) dX1_sum_30 (by decide) ?_
    refine x_locs (L' := [(1, .int (nI (sm g i + (g i)))), (2, .ref b), (3, .int (nI N)), (4, .int (nI (i + 1)))]) [1, 3, 4, 0] rfl ?_
    exact ih (i + 1) (by omega)
theorem mx_two {f : Nat → Nat} : ∀ n, mx f n = 2 → ∃ i, i < n ∧ f i = 2 := by
  intro n
  induction n with
  | zero => intro h; cases h
  | succ n ih =>
    intro h
    by_cases e : f n = 2
    · exact ⟨n, by omega, e⟩
    · have h2 : mx f n = 2 := by
        have h3 : Nat.max (mx f n) (f n) = 2 := h
        have h4 : max (mx f n) (f n) = 2 := h3
        omega
      obtain ⟨i, hi, h5⟩ := ih h2
      exact ⟨i, by omega, h5⟩
theorem badS_nil {S : AS} {s : Nat} (h : qu S s = []) : badS S s = (mx (fun o => hw S o s) (nC S) == 2 && decide (1 < cn (heldF S s) (nC S))) := by unfold badS; rw [h]; simp
theorem badS_cons {S : AS} {s : Nat} {w : Wi} {ws : List Wi} (h : qu S s = w :: ws) : badS S s = ((mx (fun o => hw S o s) (nC S) == 2 && decide (1 < cn (heldF S s) (nC S))) || canB S s w.1 w.2.1) := by unfold badS; rw [h]
theorem held_two {S : AS} {s : Nat} (h : mx (fun o => hw S o s) (nC S) = 2) : cn (heldF S s) (nC S) ≠ 0 := by
  obtain ⟨i, hi, h2⟩ := mx_two _ h
  refine cn_zero_of _ hi ?_
  have h3 : hw S i s = 2 := h2
  show (!(hw S i s == 0)) = true
  rw [h3]; rfl
set_option maxHeartbeats 4000000 in
set_option maxRecDepth 100000 in
theorem con_X1_isRight {l : Launch} {G : YG} {σ : AH} {a : Nat} {ad : Nat → Nat} {N : Nat → NL} {mc : Nat → Int32} {S : AS} {s ft : Nat} (hL : LD σ a ad N mc S) (hI : IV S) (hs : s < 8) (hf : FT σ ft) : Con l yX1_isRight cX1_isRight 5 (some FieldType.boolean) G 6 2 3 [.ref a, .int (nI s), .ref ft] σ (PRO σ (bI (!badS S s))) := by
  refine con_of (by decide) (Nat.le_of_ble_eq_true rfl) ?_
  refine x_locs (L' := [(0, .ref a), (1, .int (nI s)), (2, .ref ft)]) [0, 1, 2] rfl ?_
  have ho := hL.o
  have hL0 := hL
  have hf0 := hf
  have hC := hI.c
  have hmb : oth S s 99 ≤ 2 := by rw [oth_99 hC]; exact mx_le.mpr (fun o _ => hI.2.2.1 o s)
  have hcb := cn_le (f := heldF S s) (n := nC S)
  obtain ⟨B, hB⟩ : ∃ B : Bool, B = (mx (fun o => hw S o s) (nC S) == 2 && decide (1 < cn (heldF S s) (nC S))) := ⟨_, rfl⟩
  have bad : ∀ (τ : AH) (k n : Nat), RO σ τ → B = true → X l yX1_isRight cX1_isRight 5 (some FieldType.boolean) [] G (yroom 6 2 3) (yEnd G (yroom 6 2 3) (PRO σ (bI (!badS S s)))) 72 [(0, .ref a), (1, .int (nI s)), (2, .ref ft), (4, .ref (ad (10 + s)))] [] τ k n := by
    intro τ k n hR hBt
    have hbad : badS S s = true := by unfold badS; rw [← hB, hBt]; rfl
    refine x_iconst (v := nI 0) dX1_isRight_72 (by decide) ?_
    exact x_zret dX1_isRight_73 rfl (rfl) (pRo (by rw [hbad]; rfl) hR)
  have tail : ∀ (τ : AH) (k n : Nat), RO σ τ → B = false → X l yX1_isRight cX1_isRight 5 (some FieldType.boolean) [] G (yroom 6 2 3) (yEnd G (yroom 6 2 3) (PRO σ (bI (!badS S s)))) 43 [(0, .ref a), (1, .int (nI s)), (2, .ref ft), (4, .ref (ad (10 + s)))] [] τ k n := by
    intro τ k n hR hBf
    have hL := hL0.ro hR
    have ho := hL.o
    have hf := hf0.ro hR
    have hNl := hL.len hs
    refine x_aload dX1_isRight_43 3 rfl ?_
    refine x_callU dX1_isRight_45 (con_J0_isEmpty (hL.ll hs)) (lw_U q1091 q1092 q1094 q1095 q87 q1096) rfl (np := 0) (by decide +kernel) rfl (hL.ll hs).rc ⟨Nat.le_of_ble_eq_true rfl, Nat.le_of_ble_eq_true rfl⟩ (Nat.le_of_ble_eq_true rfl) rfl (Nat.zero_le _) (Nat.zero_le _) (rS ?_) nI'
    refine x_if_ne (tgt := 68) dX1_isRight_48 (by decide) (fun c1 => ?_) (fun c1 => ?_)
    · have c1 := bI_1 c1
      have hq : qu S s = [] := by
        have hz : N s = [] := List.isEmpty_iff.mp c1
        exact List.eq_nil_of_length_eq_zero (by rw [← hNl, hz]; rfl)
      have hbad : badS S s = false := by rw [badS_nil hq, ← hB, hBf]
      refine x_iconst (v := nI 1) dX1_isRight_68 (by decide) ?_
      refine x_goto (tgt := 73) dX1_isRight_69 (by decide) ?_
      exact x_zret dX1_isRight_73 rfl (rfl) (pRo (by rw [hbad]; rfl) hR)
    · have c1 := bI_0 c1
      obtain ⟨wv, ws, hq⟩ : ∃ w ws, qu S s = w :: ws := by
        cases h : qu S s with
        | nil =>
          have hz : N s = [] := List.eq_nil_of_length_eq_zero (by rw [hNl, h]; rfl)
          rw [hz] at c1; cases c1
        | cons w ws => exact ⟨w, ws, rfl⟩
      have hwq : (qu S s)[0]? = some wv := by rw [hq]; rfl
      obtain ⟨xn, hxn⟩ : ∃ x, (N s)[0]? = some x := ⟨_, List.getElem?_eq_getElem (by rw [hNl, hq]; exact Nat.zero_lt_succ _)⟩
      have hwc := (hL.wr hs).2 0 xn wv hxn hwq
      have hwi := hI.w hs (List.mem_of_getElem? hwq)
      have hk3 : wv.2.1 < 3 := by rcases hwi.2.1 with h | h <;> omega
      have hm24 : wv.1 < 24 := by have := hI.th hwi.1; omega
      have hbad : badS S s = canB S s wv.1 wv.2.1 := by rw [badS_cons hq, ← hB, hBf]; rfl
      refine x_aload_n dX1_isRight_51 0 rfl rfl ?_
      refine x_iload_n dX1_isRight_52 1 rfl rfl ?_
      refine x_aload dX1_isRight_53 3 rfl ?_
      refine x_callV dX1_isRight_55 (con_J4_getFirst (hL.ll hs) hxn) (lw_V q1343 q1344 q1345 q91 q1346) (np := 0) (by decide +kernel) rfl (hL.ll hs).rc ⟨Nat.le_of_ble_eq_true rfl, Nat.le_of_ble_eq_true rfl⟩ (Nat.le_of_ble_eq_true rfl) rfl (Nat.zero_le _) (Nat.zero_le _) (rSA ?_) nA'
      refine x_ckcast dX1_isRight_58 q915 (rcv_of vC_4 hwc) ?_
      refine x_aload_n dX1_isRight_61 2 rfl rfl ?_
      refine x_callV dX1_isRight_62 (con_X1_canHave hL hI hs hwc hf hk3 hm24) (lw_V q1098 q1100 qs15 q86 q1101) (np := 3) (by decide +kernel) rfl (rcv_of vC_1 ho) ⟨Nat.le_of_ble_eq_true rfl, Nat.le_of_ble_eq_true rfl⟩ (Nat.le_of_ble_eq_true rfl) rfl (Nat.zero_le _) (Nat.zero_le _) (rS ?_) nI'
      refine x_if_ne (tgt := 72) dX1_isRight_65 (by decide) (fun c2 => ?_) (fun c2 => ?_)
      · have c2 := bI_1 c2
        refine x_iconst (v := nI 0) dX1_isRight_72 (by decide) ?_
        exact x_zret dX1_isRight_73 rfl (rfl) (pRo (by rw [hbad, c2]; rfl) hR)
      · have c2 := bI_0 c2
        refine x_iconst (v := nI 1) dX1_isRight_68 (by decide) ?_
        refine x_goto (tgt := 73) dX1_isRight_69 (by decide) ?_
        exact x_zret dX1_isRight_73 rfl (rfl) (pRo (by rw [hbad, c2]; rfl) hR)
  refine x_aload_n dX1_isRight_0 0 rfl rfl ?_
  refine x_iload_n dX1_isRight_1 1 rfl rfl ?_
  refine x_bipush (v := (-11)) dX1_isRight_2 (by decide) ?_
  refine x_callV dX1_isRight_4 (con_X1_others hL hI hs oth_x) (lw_V q1102 q1104 qs16 q86 q1105) (np := 2) (by decide +kernel) rfl (rcv_of vC_1 ho) ⟨Nat.le_of_ble_eq_true rfl, Nat.le_of_ble_eq_true rfl⟩ (Nat.le_of_ble_eq_true rfl) rfl (Nat.zero_le _) (Nat.zero_le _) (rS ?_) nI'
  refine x_iconst (v := nI 2) dX1_isRight_7 (by decide) ?_
  refine x_icmp_ne (tgt := 15) dX1_isRight_8 (by decide) (fun c1 => ?_) (fun c1 => ?_)
  · have c1 := nNe (by omega) (by omega) c1
    refine x_iconst (v := nI 0) dX1_isRight_15 (by decide) ?_
    refine x_istore_n (i := 3) (L' := [(3, .int (nI 0)), (0, .ref a), (1, .int (nI s)), (2, .ref ft)]) dX1_isRight_16 rfl (by decide) rfl ?_
    refine x_aload_n dX1_isRight_17 1 rfl rfl ?_
    refine x_get dX1_isRight_18 vC_1 in_X1 ho 1 (by decide) q279 rfl ?_
    refine x_iload_n dX1_isRight_21 2 rfl rfl ?_
    refine x_callV dX1_isRight_22 (con_J2_get hL.al (lYs_at hs)) (lw_V q407 q408 q409 q89 q410) (np := 1) (by decide +kernel) rfl hL.al.rc ⟨Nat.le_of_ble_eq_true rfl, Nat.le_of_ble_eq_true rfl⟩ (Nat.le_of_ble_eq_true rfl) rfl (Nat.zero_le _) (Nat.zero_le _) (rSA ?_) nA'
    refine x_ckcast dX1_isRight_25 q183 (hL.ll hs).rc ?_
    refine x_astore (i := 4) (L' := [(4, .ref (ad (10 + s))), (3, .int (nI 0)), (0, .ref a), (1, .int (nI s)), (2, .ref ft)]) dX1_isRight_28 (by decide) rfl ?_
    refine x_iload_n dX1_isRight_30 1 rfl rfl ?_
    refine x_if_eq (tgt := 43) dX1_isRight_31 (by decide) (fun _ => ?_) (fun h_ => absurd (rfl) h_)
    refine x_locs (L' := [(0, .ref a), (1, .int (nI s)), (2, .ref ft), (4, .ref (ad (10 + s)))]) [2, 3, 4, 0] rfl ?_
    exact tail _ _ _ RO.rf (by rw [hB, ← oth_99 hC]; simp [c1])
  · have c1 := nEq (by omega) (by omega) c1
    refine x_iconst (v := nI 1) dX1_isRight_11 (by decide) ?_
    refine x_goto (tgt := 16) dX1_isRight_12 (by decide) ?_
    refine x_istore_n (i := 3) (L' := [(3, .int (nI 1)), (0, .ref a), (1, .int (nI s)), (2, .ref ft)]) dX1_isRight_16 rfl (by decide) rfl ?_
    refine x_aload_n dX1_isRight_17 1 rfl rfl ?_
    refine x_get dX1_isRight_18 vC_1 in_X1 ho 1 (by decide) q279 rfl ?_
    refine x_iload_n dX1_isRight_21 2 rfl rfl ?_
    refine x_callV dX1_isRight_22 (con_J2_get hL.al (lYs_at hs)) (lw_V q407 q408 q409 q89 q410) (np := 1) (by decide +kernel) rfl hL.al.rc ⟨Nat.le_of_ble_eq_true rfl, Nat.le_of_ble_eq_true rfl⟩ (Nat.le_of_ble_eq_true rfl) rfl (Nat.zero_le _) (Nat.zero_le _) (rSA ?_) nA'
    refine x_ckcast dX1_isRight_25 q183 (hL.ll hs).rc ?_
    refine x_astore (i := 4) (L' := [(4, .ref (ad (10 + s))), (3, .int (nI 1)), (0, .ref a), (1, .int (nI s)), (2, .ref ft)]) dX1_isRight_28 (by decide) rfl ?_
    refine x_iload_n dX1_isRight_30 1 rfl rfl ?_
    refine x_if_eq (tgt := 43) dX1_isRight_31 (by decide) (fun h_ => absurd h_ (by decide)) (fun _ => ?_)
    refine x_aload_n dX1_isRight_34 2 rfl rfl ?_
    refine x_iload_n dX1_isRight_35 3 rfl rfl ?_
    refine x_callV dX1_isRight_36 (con_X1_holders hL hI hs) (lw_V q1409 q1410 q1411 q86 q1412) (np := 1) (by decide +kernel) rfl (rcv_of vC_1 ho) ⟨Nat.le_of_ble_eq_true rfl, Nat.le_of_ble_eq_true rfl⟩ (Nat.le_of_ble_eq_true rfl) rfl (by omega) (by omega) (rP fun σ4 hR => ?_) nI'
    refine x_iconst (v := nI 1) dX1_isRight_39 (by decide) ?_
    refine x_icmp_ne (tgt := 72) dX1_isRight_40 (by decide) (fun c2 => ?_) (fun c2 => ?_)
    · have c2 := nNe (by omega) (by omega) c2
      have h0 := held_two (S := S) (s := s) (by rw [← oth_99 hC]; exact c1)
      refine x_locs (L' := [(0, .ref a), (1, .int (nI s)), (2, .ref ft), (4, .ref (ad (10 + s)))]) [2, 3, 4, 0] rfl ?_
      exact bad _ _ _ hR (by rw [hB, ← oth_99 hC, c1, decide_eq_true (by omega)]; rfl)
    · have c2 := nEq (by omega) (by omega) c2
      refine x_locs (L' := [(0, .ref a), (1, .int (nI s)), (2, .ref ft), (4, .ref (ad (10 + s)))]) [2, 3, 4, 0] rfl ?_
      exact tail _ _ _ hR (by rw [hB, c2]; simp)
theorem bI_and (a b : Bool) : bI a &&& bI b = bI (a && b) := by cases a <;> cases b <;> rfl
theorem yV_iff {z : Option Nat} (h : ∀ m, z = some m → m < 24) : yV z = (-11) ↔ z = none := by
  cases z with
  | none => exact ⟨fun _ => rfl, fun _ => rfl⟩
  | some m => exact ⟨fun e => absurd e ((by decide +kernel : ∀ m, m < 24 → ¬ nI m = (-11)) m (h m rfl)), fun e => by cases e⟩
theorem young_lt {S : AS} (hI : IV S) : ∀ m, young S = some m → m < 24 := fun m h => by have := (young_some h).1; have := hI.c; omega
def okUp (S : AS) (a : Bool) (i : Nat) : Bool := a && (cn (badS S) i == 0)
theorem okUp_s {S : AS} {a : Bool} {i : Nat} : (okUp S a i && !badS S i) = okUp S a (i + 1) := by
  unfold okUp
  cases h : badS S i with
  | true =>
    rw [cn_t h]
    simp
  | false => rw [cn_f0 h]; simp
set_option maxHeartbeats 4000000 in
set_option maxRecDepth 100000 in
theorem con_X1_isBalanced {l : Launch} {G : YG} {σ : AH} {a : Nat} {ad : Nat → Nat} {N : Nat → NL} {mc : Nat → Int32} {S : AS} {ft : Nat} (hL : LD σ a ad N mc S) (hI : IV S) (hf : FT σ ft) : Con l yX1_isBalanced cX1_isBalanced 4 (some FieldType.boolean) G 12 (yC S + 16) (5 * (yC S + 16)) [.ref a, .ref ft] σ (PRO σ (qBal S)) := by
  refine con_of (by decide) (Nat.le_of_ble_eq_true rfl) ?_
  refine x_locs (L' := [(0, .ref a), (1, .ref ft)]) [0, 1] rfl ?_
  have ho := hL.o
  have hL0 := hL
  have hf0 := hf
  have hC := hI.c
  have hcn := hI.2.2.2.2.2.2.2.2.1
  have hcn9 := cn_le (f := tH S) (n := 24)
  obtain ⟨A, hA⟩ : ∃ A : Bool, A = (young S).isNone := ⟨_, rfl⟩
  have loop : ∀ (d i : Nat) (τ : AH) (k n : Nat), i + d = 8 → RO σ τ → d * 2 ≤ k → d * 3 ≤ n → X l yX1_isBalanced cX1_isBalanced 4 (some FieldType.boolean) [] G (yroom 12 (yC S + 16) (5 * (yC S + 16))) (yEnd G (yroom 12 (yC S + 16) (5 * (yC S + 16))) (PRO σ (qBal S))) 33 [(0, .ref a), (1, .ref ft), (2, .int (bI (okUp S A i))), (3, .int (nI i))] [] τ k n := by
    intro d
    induction d with
    | zero =>
      intro i τ k n hi hR hk0 hn0
      have hi8 : i = 8 := by omega
      subst hi8
      refine x_iload_n dX1_isBalanced_33 3 rfl rfl ?_
      refine x_bipush (v := nI 8) dX1_isBalanced_34 (by decide) ?_
      refine x_icmp_ge (tgt := 54) dX1_isBalanced_36 (by decide) (fun _ => ?_) (fun h_ => absurd (by decide) h_)
      refine x_iload_n dX1_isBalanced_54 2 rfl rfl ?_
      exact x_zret dX1_isBalanced_55 rfl (bI_z _) (pRo (by unfold qBal okUp; rw [hA, Bool.and_comm]) hR)
    | succ d ih =>
      intro i τ k n hi hR hk0 hn0
      have hi8 : i < 8 := by omega
      have hL := hL0.ro hR
      have ho := hL.o
      have hf := hf0.ro hR
      refine x_iload_n dX1_isBalanced_33 3 rfl rfl ?_
      refine x_bipush (v := nI 8) dX1_isBalanced_34 (by decide) ?_
      refine x_icmp_ge (tgt := 54) dX1_isBalanced_36 (by decide) (fun h_ => absurd h_ (fun h => absurd (nLe (by omega) (by omega) h) (by omega))) (fun _ => ?_)
      refine x_iload_n dX1_isBalanced_39 2 rfl rfl ?_
      refine x_aload_n dX1_isBalanced_40 0 rfl rfl ?_
      refine x_iload_n dX1_isBalanced_41 3 rfl rfl ?_
      refine x_aload_n dX1_isBalanced_42 1 rfl rfl ?_
      refine x_callV dX1_isBalanced_43 (con_X1_isRight hL hI hi8 hf) (lw_V q1827 q1829 qs38 q86 q1830) (np := 2) (by decide +kernel) rfl (rcv_of vC_1 ho) ⟨Nat.le_of_ble_eq_true rfl, Nat.le_of_ble_eq_true rfl⟩ (Nat.le_of_ble_eq_true rfl) rfl (by omega) (by omega) (rP fun σ1 hR2 => ?_) nI'
      refine x_iand dX1_isBalanced_46 ?_
      refine x_top (x' := (bI (okUp S A (i + 1)))) (by rw [bI_and, okUp_s]) ?_
      refine x_istore_n (i := 2) (L' := [(2, .int (bI (okUp S A (i + 1)))), (0, .ref a), (1, .ref ft), (3, .int (nI i))]) dX1_isBalanced_47 rfl (by decide) rfl ?_
      refine x_iinc (i := 3) (q := 3) (v := nI (i + 1)) (L' := [(3, .int (nI (i + 1))), (2, .int (bI (okUp S A (i + 1)))), (0, .ref a), (1, .ref ft)]) dX1_isBalanced_48 rfl (nI_1 _) (by decide) rfl ?_
      refine x_goto (tgt := 33) dX1_isBalanced_51 (by decide) ?_
      refine x_locs (L' := [(0, .ref a), (1, .ref ft), (2, .int (bI (okUp S A (i + 1)))), (3, .int (nI (i + 1)))]) [2, 3, 1, 0] rfl ?_
      exact ih (i + 1) _ _ _ (by omega) (hR.tr hR2) (by omega) (by omega)
  refine x_aload_n dX1_isBalanced_0 0 rfl rfl ?_
  refine x_callV dX1_isBalanced_1 (con_X1_many hL) (lw_V q949 q950 q951 q86 q952) (np := 0) (by decide +kernel) rfl (rcv_of vC_1 ho) ⟨Nat.le_of_ble_eq_true rfl, Nat.le_of_ble_eq_true rfl⟩ (Nat.le_of_ble_eq_true rfl) rfl (Nat.zero_le _) (Nat.zero_le _) (rS ?_) nI'
  refine x_aload_n dX1_isBalanced_4 0 rfl rfl ?_
  refine x_get dX1_isBalanced_5 vC_1 in_X1 ho 8 (by decide) q290 rfl ?_
  refine x_aload_n dX1_isBalanced_8 0 rfl rfl ?_
  refine x_get dX1_isBalanced_9 vC_1 in_X1 ho 9 (by decide) q292 rfl ?_
  refine x_isub dX1_isBalanced_12 ?_
  refine x_top (x' := nI (nC S - nE S)) (nI_sub (by omega)) ?_
  refine x_icmp_ne (tgt := 29) dX1_isBalanced_13 (by decide) (fun h_ => absurd (by rw [show nC S - nE S = cn (tH S) 24 by omega]) h_) (fun _ => ?_)
  refine x_aload_n dX1_isBalanced_16 0 rfl rfl ?_
  refine x_callV dX1_isBalanced_17 (con_X1_youngestInRing hL hI) (lw_V q1126 q1128 qs19 q86 q1129) (np := 0) (by decide +kernel) rfl (rcv_of vC_1 ho) ⟨Nat.le_of_ble_eq_true rfl, Nat.le_of_ble_eq_true rfl⟩ (Nat.le_of_ble_eq_true rfl) rfl (by omega) (by omega) (rP fun σ3 hR => ?_) nI'
  refine x_bipush (v := (-11)) dX1_isBalanced_20 (by decide) ?_
  refine x_icmp_ne (tgt := 29) dX1_isBalanced_22 (by decide) (fun c1 => ?_) (fun c1 => ?_)
  · have hAv : A = false := by
      rw [hA]
      cases h : young S with
      | none => rw [h] at c1; exact absurd rfl c1
      | some m => rfl
    refine x_iconst (v := nI 0) dX1_isBalanced_29 (by decide) ?_
    refine x_top (x' := (bI (okUp S A 0))) (by rw [hAv]; rfl) ?_
    refine x_istore_n (i := 2) (L' := [(2, .int (bI (okUp S A 0))), (0, .ref a), (1, .ref ft)]) dX1_isBalanced_30 rfl (by decide) rfl ?_
    refine x_iconst (v := nI 0) dX1_isBalanced_31 (by decide) ?_
    refine x_istore_n (i := 3) (L' := [(3, .int (nI 0)), (2, .int (bI (okUp S A 0))), (0, .ref a), (1, .ref ft)]) dX1_isBalanced_32 rfl (by decide) rfl ?_
    refine x_locs (L' := [(0, .ref a), (1, .ref ft), (2, .int (bI (okUp S A 0))), (3, .int (nI 0))]) [2, 3, 1, 0] rfl ?_
    exact loop 8 0 _ _ _ rfl hR (by omega) (by omega)
  · have hAv : A = true := by rw [hA, (yV_iff (young_lt hI)).mp c1]; rfl
    refine x_iconst (v := nI 1) dX1_isBalanced_25 (by decide) ?_
    refine x_goto (tgt := 30) dX1_isBalanced_26 (by decide) ?_
    refine x_top (x' := (bI (okUp S A 0))) (by rw [hAv]; rfl) ?_
    refine x_istore_n (i := 2) (L' := [(2, .int (bI (okUp S A 0))), (0, .ref a), (1, .ref ft)]) dX1_isBalanced_30 rfl (by decide) rfl ?_
    refine x_iconst (v := nI 0) dX1_isBalanced_31 (by decide) ?_
    refine x_istore_n (i := 3) (L' := [(3, .int (nI 0)), (2, .int (bI (okUp S A 0))), (0, .ref a), (1, .ref ft)]) dX1_isBalanced_32 rfl (by decide) rfl ?_
    refine x_locs (L' := [(0, .ref a), (1, .ref ft), (2, .int (bI (okUp S A 0))), (3, .int (nI 0))]) [2, 3, 1, 0] rfl ?_
    exact loop 8 0 _ _ _ rfl hR (by omega) (by omega)
