set_option maxRecDepth 100000
theorem aAtN_succ {S : AS} {m n : Nat} (h : aAtN S m n = none) (h2 : wishIn m (qu S n) = none) : aAtN S m (n + 1) = none := aAtN_none.mpr (fun s hs => by
  rcases Nat.lt_or_ge s n with q | q
  · exact aAtN_none.mp h s q
  · rw [show s = n by omega]; exact h2)
theorem atV_some {S : AS} {m s : Nat} (h : aAt S m = some s) : atV S m = nI s := by unfold atV; rw [h]
theorem atV_none {S : AS} {m : Nat} (h : aAt S m = none) : atV S m = -15 := by unfold atV; rw [h]
theorem row_none {S : AS} {m s : Nat} {j : Nat} (hj : j = (qu S s).length) (h : ∀ i w, i < j → (qu S s)[i]? = some w → w.1 ≠ m) : wishIn m (qu S s) = none := wishIn_none.mpr (fun w hw => by
  obtain ⟨i, hi⟩ := List.getElem?_of_mem hw
  exact h i w (by rw [hj]; exact (List.getElem?_eq_some_iff.mp hi).1) hi)
theorem row_step {r : List Wi} {m j : Nat} {wv : Wi} (h : ∀ i w, i < j → r[i]? = some w → w.1 ≠ m) (hw : r[j]? = some wv) (hne : wv.1 ≠ m) : ∀ i w, i < j + 1 → r[i]? = some w → w.1 ≠ m := fun i w hi hr => by
  rcases Nat.lt_or_ge i j with q | q
  · exact h i w q hr
  · have e : i = j := by omega
    subst e
    rw [hw] at hr
    cases hr
    exact hne
theorem row_found {S : AS} (hI : IV S) {m s j : Nat} {wv : Wi} (hs : s < 8) (hw : (qu S s)[j]? = some wv) (he : wv.1 = m) : wishIn m (qu S s) = some wv := by
  rw [← he]; exact wish_row (hI.nd hs) (List.mem_of_getElem? hw)
abbrev PN (f : AH → Prop) : YR → AH → Prop := fun r τ => r = .inl (some .null) ∧ f τ
theorem rN {l : Launch} {y : MethodName} {cc : ByteArray} {nL : Nat} {ret : Option FieldType} {hh : List (Nat × Nat × Nat × Nat)} {G : YG} {R : Room} {Z : YE} {L : List (Nat × Value)} {rest : List Value} {f : AH → Prop} {pcn k' n' : Nat} (h : ∀ (τ : AH), f τ → X l y cc nL ret hh G R Z pcn L (.null :: rest) τ k' n') : ∀ (v : Option Value) (τ : AH), PN f (.inl v) τ → X l y cc nL ret hh G R Z pcn L (v.toList ++ rest) τ k' n' := fun v τ ⟨e, hz⟩ => by
  cases e
  exact h τ hz
theorem nN' {l : Launch} {y : MethodName} {cc : ByteArray} {nL : Nat} {ret : Option FieldType} {hh : List (Nat × Nat × Nat × Nat)} {G : YG} {R : Room} {Z : YE} {pc : Nat} {L : List (Nat × Value)} {rest : List Value} {f : AH → Prop} {k' n' : Nat} : ∀ (E : String) (q : Nat) (τ : AH), PN f (.inr (E, q)) τ → XT l y cc nL ret hh G R Z pc L rest E q τ k' n' := fun _ _ _ ⟨e, _⟩ => by cases e
set_option maxHeartbeats 4000000 in
set_option maxRecDepth 100000 in
theorem con_X1_waitsFor {l : Launch} {G : YG} {σ : AH} {a : Nat} {ad : Nat → Nat} {N : Nat → NL} {mc : Nat → Int32} {S : AS} {m : Nat} (hL : LD σ a ad N mc S) (hI : IV S) (hm : m < 24) : Con l yX1_waitsFor cX1_waitsFor 6 (some FieldType.int) G 6 8 40 [.ref a, .int (nI m)] σ (PRO σ (atV S m)) := by
  refine con_of (by decide) (Nat.le_of_ble_eq_true rfl) ?_
  refine x_locs (L' := [(0, .ref a), (1, .int (nI m))]) [0, 1] rfl ?_
  have ho := hL.o
  have hL0 := hL
  refine x_bipush (v := (-15)) dX1_waitsFor_0 (by decide) ?_
  refine x_istore_n (i := 2) (L' := [(2, .int (-15)), (0, .ref a), (1, .int (nI m))]) dX1_waitsFor_2 rfl (by decide) rfl ?_
  refine x_iconst (v := nI 0) dX1_waitsFor_3 (by decide) ?_
  refine x_istore_n (i := 3) (L' := [(3, .int (nI 0)), (2, .int (-15)), (0, .ref a), (1, .int (nI m))]) dX1_waitsFor_4 rfl (by decide) rfl ?_
  refine x_locs (L' := [(0, .ref a), (1, .int (nI m)), (2, .int (-15)), (3, .int (nI 0))]) [2, 3, 1, 0] rfl ?_
  suffices loop : ∀ (e s : Nat) (τ : AH) (k n : Nat), s + e = 8 → RO σ τ → aAtN S m s = none → e ≤ k → e * 5 ≤ n → X l yX1_waitsFor cX1_waitsFor 6 (some FieldType.int) [] G (yroom 6 8 40) (yEnd G (yroom 6 8 40) (PRO σ (atV S m))) 5 [(0, .ref a), (1, .int (nI m)), (2, .int (-15)), (3, .int (nI s))] [] τ k n from loop 8 0 σ 8 40 rfl RO.rf rfl (by omega) (by omega)
  intro e
  induction e with
  | zero =>
    intro s τ k n hse hR hno hk0 hn0
    have hs8 : s = 8 := by omega
    subst hs8
    refine x_iload_n dX1_waitsFor_5 3 rfl rfl ?_
    refine x_bipush (v := nI 8) dX1_waitsFor_6 (by decide) ?_
    refine x_icmp_ge (tgt := 72) dX1_waitsFor_8 (by decide) (fun _ => ?_) (fun h_ => absurd (by decide) h_)
    refine x_iload_n dX1_waitsFor_72 2 rfl rfl ?_
    exact x_iret dX1_waitsFor_73 rfl (pRo (atV_none hno).symm hR)
  | succ e ihs =>
    intro s τ k n hse hR hno hk0 hn0
    have hL := hL0.ro hR
    have ho := hL.o
    have hs : s < 8 := by omega
    refine x_iload_n dX1_waitsFor_5 3 rfl rfl ?_
    refine x_bipush (v := nI 8) dX1_waitsFor_6 (by decide) ?_
    refine x_icmp_ge (tgt := 72) dX1_waitsFor_8 (by decide) (fun h_ => absurd h_ (fun h => absurd (nLe (by omega) (by omega) h) (by omega))) (fun _ => ?_)
    refine x_aload_n dX1_waitsFor_11 0 rfl rfl ?_
    refine x_get dX1_waitsFor_12 vC_1 in_X1 ho 1 (by decide) q279 rfl ?_
    refine x_iload_n dX1_waitsFor_15 3 rfl rfl ?_
    refine x_callV dX1_waitsFor_16 (con_J2_get hL.al (lYs_at hs)) (lw_V q407 q408 q409 q89 q410) (np := 1) (by decide +kernel) rfl hL.al.rc ⟨Nat.le_of_ble_eq_true rfl, Nat.le_of_ble_eq_true rfl⟩ (Nat.le_of_ble_eq_true rfl) rfl (Nat.zero_le _) (Nat.zero_le _) (rSA ?_) nA'
    refine x_ckcast dX1_waitsFor_19 q183 (hL.ll hs).rc ?_
    refine x_callU dX1_waitsFor_22 (con_J3_iterator (hL.ll hs)) (lw_U q421 q422 q424 q425 q90 q426) rfl (np := 0) (by decide +kernel) rfl (hL.ll hs).rc ⟨Nat.le_of_ble_eq_true rfl, Nat.le_of_ble_eq_true rfl⟩ (Nat.le_of_ble_eq_true rfl) rfl (by omega) (by omega) (rA fun z σ2 hi1 => ?_) nA'
    obtain ⟨zn, zI, zR⟩ := hi1
    have hL := hL.ro (zR)
    have ho := hL.o
    have zn : σ z = none := hR.nn zn
    have hR := hR.tr zR
    refine x_astore (i := 4) (L' := [(4, .ref z), (0, .ref a), (1, .int (nI m)), (2, .int (-15)), (3, .int (nI s))]) dX1_waitsFor_25 (by decide) rfl ?_
    refine x_locs (L' := [(0, .ref a), (1, .int (nI m)), (2, .int (-15)), (3, .int (nI s)), (4, .ref z)]) [1, 2, 3, 4, 0] rfl ?_
    suffices loop : ∀ (d j : Nat) (τ : AH) (la : Option Nat) (k n : Nat), j + d = (qu S s).length → RO σ τ → LI τ z (ad (10 + s)) (mc s) (N s) j la → (∀ i w, i < j → (qu S s)[i]? = some w → w.1 ≠ m) → e ≤ k → e * 5 ≤ n → X l yX1_waitsFor cX1_waitsFor 6 (some FieldType.int) [] G (yroom 6 8 40) (yEnd G (yroom 6 8 40) (PRO σ (atV S m))) 27 [(0, .ref a), (1, .int (nI m)), (2, .int (-15)), (3, .int (nI s)), (4, .ref z)] [] τ k n from loop _ 0 _ none _ _ (Nat.zero_add _) (hR) zI (fun i w hi => absurd hi (Nat.not_lt_zero i)) (by omega) (by omega)
    intro d
    induction d with
    | zero =>
      intro j τ la k n hj hR hz hiv hk0 hn0
      have hL := hL0.ro hR
      have ho := hL.o
      have hjl : j = (qu S s).length := by omega
      have hNl := (hL.wr hs).1
      refine x_aload dX1_waitsFor_27 4 rfl ?_
      refine x_callF dX1_waitsFor_29 (con_J18_hasNext (hL.ll hs) hz (by omega)) (lw_F q509 q549 q551 q108 q553) q511 q510 q552 q550 q548 (np := 0) (by decide +kernel) rfl vC_13 hz ⟨Nat.le_of_ble_eq_true rfl, Nat.le_of_ble_eq_true rfl⟩ (Nat.le_of_ble_eq_true rfl) rfl (Nat.zero_le _) (Nat.zero_le _) (rS ?_) nI'
      refine x_top (x' := 0) (by rw [decide_eq_false (by omega)]; rfl) ?_
      refine x_if_eq (tgt := 66) dX1_waitsFor_34 (by decide) (fun _ => ?_) (fun h_ => absurd (rfl) h_)
      refine x_iinc (i := 3) (q := 3) (v := nI (s + 1)) (L' := [(3, .int (nI (s + 1))), (0, .ref a), (1, .int (nI m)), (2, .int (-15)), (4, .ref z)]) dX1_waitsFor_66 rfl (nI_1 _) (by decide) rfl ?_
      refine x_goto (tgt := 5) dX1_waitsFor_69 (by decide) ?_
      refine x_locs (L' := [(0, .ref a), (1, .int (nI m)), (2, .int (-15)), (3, .int (nI (s + 1)))]) [1, 2, 3, 0] rfl ?_
      exact ihs (s + 1) _ _ _ (by omega) hR (aAtN_succ hno (row_none hjl hiv)) (by omega) (by omega)
    | succ d ih =>
      intro j τ la k n hj hR hz hiv hk0 hn0
      have hL := hL0.ro hR
      have ho := hL.o
      have hNl := (hL.wr hs).1
      obtain ⟨x, hx⟩ : ∃ x, (N s)[j]? = some x := ⟨_, List.getElem?_eq_getElem (by omega)⟩
      obtain ⟨wv, hwv⟩ : ∃ wv, (qu S s)[j]? = some wv := ⟨_, List.getElem?_eq_getElem (by omega)⟩
      have hwc := (hL.wr hs).2 j x wv hx hwv
      have hwi := hI.w hs (List.mem_of_getElem? hwv)
      have hwC := hI.th hwi.1
      have hC := hI.c
      refine x_aload dX1_waitsFor_27 4 rfl ?_
      refine x_callF dX1_waitsFor_29 (con_J18_hasNext (hL.ll hs) hz (by omega)) (lw_F q509 q549 q551 q108 q553) q511 q510 q552 q550 q548 (np := 0) (by decide +kernel) rfl vC_13 hz ⟨Nat.le_of_ble_eq_true rfl, Nat.le_of_ble_eq_true rfl⟩ (Nat.le_of_ble_eq_true rfl) rfl (Nat.zero_le _) (Nat.zero_le _) (rS ?_) nI'
      refine x_top (x' := 1) (by rw [decide_eq_true (by omega)]; rfl) ?_
      refine x_if_eq (tgt := 66) dX1_waitsFor_34 (by decide) (fun h_ => absurd h_ (by decide)) (fun _ => ?_)
      refine x_aload dX1_waitsFor_37 4 rfl ?_
      refine x_callF dX1_waitsFor_39 (con_J18_next (hL.ll hs) hz hx) (lw_F q555 q905 q907 q108 q909) q557 q556 q908 q906 q548 (np := 0) (by decide +kernel) rfl vC_13 hz ⟨Nat.le_of_ble_eq_true rfl, Nat.le_of_ble_eq_true rfl⟩ (Nat.le_of_ble_eq_true rfl) rfl (Nat.zero_le _) (Nat.zero_le _) (rA fun u σ6 h5 => ?_) nA'
      obtain ⟨rfl, hz, zU⟩ := h5
      have hR := hR.nx zn zU
      have hL := hL0.ro hR
      have ho := hL.o
      have hwc := (hL.wr hs).2 j x wv hx hwv
      refine x_ckcast dX1_waitsFor_44 q915 (rcv_of vC_4 hwc) ?_
      refine x_astore (i := 5) (L' := [(5, .ref x.2), (0, .ref a), (1, .int (nI m)), (2, .int (-15)), (3, .int (nI s)), (4, .ref z)]) dX1_waitsFor_47 (by decide) rfl ?_
      refine x_aload dX1_waitsFor_49 0 rfl ?_
      refine x_getN dX1_waitsFor_51 vC_4 in_X4 hwc 0 (by decide) q1078 rfl ?_
      refine x_iload_n dX1_waitsFor_54 2 rfl rfl ?_
      refine x_icmp_ne (tgt := 63) dX1_waitsFor_55 (by decide) (fun c1 => ?_) (fun c1 => ?_)
      · have c1 := nNe (by omega) (by omega) c1
        refine x_goto (tgt := 27) dX1_waitsFor_63 (by decide) ?_
        refine x_locs (L' := [(0, .ref a), (1, .int (nI m)), (2, .int (-15)), (3, .int (nI s)), (4, .ref z)]) [1, 2, 3, 4, 5] rfl ?_
        exact ih (j + 1) _ _ _ _ (by omega) hR hz (row_step hiv hwv c1) (by omega) (by omega)
      · have c1 := nEq (by omega) (by omega) c1
        have hat : aAt S m = some s := aAt_uq hI.uq hs (row_found hI hs hwv c1)
        refine x_iload_n dX1_waitsFor_58 4 rfl rfl ?_
        refine x_istore_n (i := 2) (L' := [(2, .int (nI s)), (5, .ref x.2), (0, .ref a), (1, .int (nI m)), (3, .int (nI s)), (4, .ref z)]) dX1_waitsFor_59 rfl (by decide) rfl ?_
        refine x_goto (tgt := 72) dX1_waitsFor_60 (by decide) ?_
        refine x_iload_n dX1_waitsFor_72 0 rfl rfl ?_
        exact x_iret dX1_waitsFor_73 rfl (pRo (atV_some hat).symm hR)
set_option maxHeartbeats 4000000 in
set_option maxRecDepth 100000 in
theorem con_X1_wishOf0 {l : Launch} {G : YG} {σ : AH} {a : Nat} {ad : Nat → Nat} {N : Nat → NL} {mc : Nat → Int32} {S : AS} {m : Nat} (hL : LD σ a ad N mc S) (hI : IV S) (hm : m < 24) (hat : aAt S m = none) : Con l yX1_wishOf cX1_wishOf 5 (some (FieldType.object "LarderLocks$Wish")) G 7 8 40 [.ref a, .int (nI m)] σ (PN fun τ => RO σ τ) := by
  refine con_of (by decide) (Nat.le_of_ble_eq_true rfl) ?_
  refine x_locs (L' := [(0, .ref a), (1, .int (nI m))]) [0, 1] rfl ?_
  have ho := hL.o
  refine x_aload_n dX1_wishOf_0 0 rfl rfl ?_
  refine x_iload_n dX1_wishOf_1 1 rfl rfl ?_
  refine x_callV dX1_wishOf_2 (con_X1_waitsFor hL hI hm) (lw_V q1068 q1069 q1070 q86 q1071) (np := 1) (by decide +kernel) rfl (rcv_of vC_1 ho) ⟨Nat.le_of_ble_eq_true rfl, Nat.le_of_ble_eq_true rfl⟩ (Nat.le_of_ble_eq_true rfl) rfl (by omega) (by omega) (rP fun σ1 hR1 => ?_) nI'
  refine x_top (x' := (-15)) (atV_none hat) ?_
  refine x_istore_n (i := 2) (L' := [(2, .int (-15)), (0, .ref a), (1, .int (nI m))]) dX1_wishOf_5 rfl (by decide) rfl ?_
  refine x_iload_n dX1_wishOf_6 0 rfl rfl ?_
  refine x_bipush (v := (-15)) dX1_wishOf_7 (by decide) ?_
  refine x_icmp_eq (tgt := 62) dX1_wishOf_9 (by decide) (fun _ => ?_) (fun h_ => absurd (rfl) h_)
  refine x_null dX1_wishOf_62 ?_
  exact x_aret dX1_wishOf_63 rfl (by first | exact Or.inl ⟨_, rfl⟩ | exact Or.inr ⟨_, rfl⟩) (Or.inl rfl) (⟨rfl, hR1⟩)
set_option maxHeartbeats 4000000 in
set_option maxRecDepth 100000 in
theorem con_X1_wishOf1 {l : Launch} {G : YG} {σ : AH} {a : Nat} {ad : Nat → Nat} {N : Nat → NL} {mc : Nat → Int32} {S : AS} {m s : Nat} {w : Wi} (hL : LD σ a ad N mc S) (hI : IV S) (hm : m < 24) (hat : aAt S m = some s) (hw : aWish S m = some w) : Con l yX1_wishOf cX1_wishOf 5 (some (FieldType.object "LarderLocks$Wish")) G 7 9 45 [.ref a, .int (nI m)] σ (PA fun b τ => τ b = some (wiE w) ∧ RO σ τ) := by
  refine con_of (by decide) (Nat.le_of_ble_eq_true rfl) ?_
  refine x_locs (L' := [(0, .ref a), (1, .int (nI m))]) [0, 1] rfl ?_
  have ho := hL.o
  have hL0 := hL
  have hs := (aAt_some hat).1
  have hww : wishIn m (qu S s) = some w := by unfold aWish at hw; rw [hat] at hw; exact hw
  refine x_aload_n dX1_wishOf_0 0 rfl rfl ?_
  refine x_iload_n dX1_wishOf_1 1 rfl rfl ?_
  refine x_callV dX1_wishOf_2 (con_X1_waitsFor hL hI hm) (lw_V q1068 q1069 q1070 q86 q1071) (np := 1) (by decide +kernel) rfl (rcv_of vC_1 ho) ⟨Nat.le_of_ble_eq_true rfl, Nat.le_of_ble_eq_true rfl⟩ (Nat.le_of_ble_eq_true rfl) rfl (by omega) (by omega) (rP fun σ1 hR => ?_) nI'
  have hL := hL.ro (hR)
  have ho := hL.o
  refine x_top (x' := nI s) (atV_some hat) ?_
  refine x_istore_n (i := 2) (L' := [(2, .int (nI s)), (0, .ref a), (1, .int (nI m))]) dX1_wishOf_5 rfl (by decide) rfl ?_
  refine x_iload_n dX1_wishOf_6 0 rfl rfl ?_
  refine x_bipush (v := (-15)) dX1_wishOf_7 (by decide) ?_
  refine x_icmp_eq (tgt := 62) dX1_wishOf_9 (by decide) (fun h_ => absurd h_ (fun h => absurd h (by exact (by decide +kernel : ∀ s, s < 8 → ¬ nI s = (-15)) s hs))) (fun _ => ?_)
  refine x_aload_n dX1_wishOf_12 1 rfl rfl ?_
  refine x_get dX1_wishOf_13 vC_1 in_X1 ho 1 (by decide) q279 rfl ?_
  refine x_iload_n dX1_wishOf_16 0 rfl rfl ?_
  refine x_callV dX1_wishOf_17 (con_J2_get hL.al (lYs_at hs)) (lw_V q407 q408 q409 q89 q410) (np := 1) (by decide +kernel) rfl hL.al.rc ⟨Nat.le_of_ble_eq_true rfl, Nat.le_of_ble_eq_true rfl⟩ (Nat.le_of_ble_eq_true rfl) rfl (Nat.zero_le _) (Nat.zero_le _) (rSA ?_) nA'
  refine x_ckcast dX1_wishOf_20 q183 (hL.ll hs).rc ?_
  refine x_callU dX1_wishOf_23 (con_J3_iterator (hL.ll hs)) (lw_U q421 q422 q424 q425 q90 q426) rfl (np := 0) (by decide +kernel) rfl (hL.ll hs).rc ⟨Nat.le_of_ble_eq_true rfl, Nat.le_of_ble_eq_true rfl⟩ (Nat.le_of_ble_eq_true rfl) rfl (by omega) (by omega) (rA fun z σ3 hi2 => ?_) nA'
  obtain ⟨zn, zI, zR⟩ := hi2
  have hL := hL.ro (zR)
  have ho := hL.o
  have zn : σ z = none := hR.nn zn
  have hR := hR.tr zR
  refine x_astore_n (i := 3) (L' := [(3, .ref z), (2, .int (nI s)), (0, .ref a), (1, .int (nI m))]) dX1_wishOf_26 rfl (by decide) rfl ?_
  refine x_locs (L' := [(0, .ref a), (1, .int (nI m)), (2, .int (nI s)), (3, .ref z)]) [2, 3, 1, 0] rfl ?_
  suffices loop : ∀ (d j : Nat) (τ : AH) (la : Option Nat) (k n : Nat), j + d = (qu S s).length → RO σ τ → LI τ z (ad (10 + s)) (mc s) (N s) j la → (∀ i w, i < j → (qu S s)[i]? = some w → w.1 ≠ m) → 0 ≤ k → 0 ≤ n → X l yX1_wishOf cX1_wishOf 5 (some (FieldType.object "LarderLocks$Wish")) [] G (yroom 7 9 45) (yEnd G (yroom 7 9 45) (PA fun b τ => τ b = some (wiE w) ∧ RO σ τ)) 27 [(0, .ref a), (1, .int (nI m)), (2, .int (nI s)), (3, .ref z)] [] τ k n from loop _ 0 _ none _ _ (Nat.zero_add _) (hR) zI (fun i w hi => absurd hi (Nat.not_lt_zero i)) (by omega) (by omega)
  intro d
  induction d with
  | zero =>
    intro j τ la k n hj hR hz hiv hk0 hn0
    have hL := hL0.ro hR
    have ho := hL.o
    have hjl : j = (qu S s).length := by omega
    have hNl := (hL.wr hs).1
    refine x_aload_n dX1_wishOf_27 3 rfl rfl ?_
    refine x_callF dX1_wishOf_28 (con_J18_hasNext (hL.ll hs) hz (by omega)) (lw_F q509 q549 q551 q108 q553) q511 q510 q552 q550 q548 (np := 0) (by decide +kernel) rfl vC_13 hz ⟨Nat.le_of_ble_eq_true rfl, Nat.le_of_ble_eq_true rfl⟩ (Nat.le_of_ble_eq_true rfl) rfl (Nat.zero_le _) (Nat.zero_le _) (rS ?_) nI'
    refine x_top (x' := 0) (by rw [decide_eq_false (by omega)]; rfl) ?_
    refine x_if_eq (tgt := 62) dX1_wishOf_33 (by decide) (fun _ => ?_) (fun h_ => absurd (rfl) h_)
    have := row_none hjl hiv
    rw [hww] at this
    cases this
  | succ d ih =>
    intro j τ la k n hj hR hz hiv hk0 hn0
    have hL := hL0.ro hR
    have ho := hL.o
    have hNl := (hL.wr hs).1
    obtain ⟨x, hx⟩ : ∃ x, (N s)[j]? = some x := ⟨_, List.getElem?_eq_getElem (by omega)⟩
    obtain ⟨wv, hwv⟩ : ∃ wv, (qu S s)[j]? = some wv := ⟨_, List.getElem?_eq_getElem (by omega)⟩
    have hwc := (hL.wr hs).2 j x wv hx hwv
    have hwi := hI.w hs (List.mem_of_getElem? hwv)
    have hwC := hI.th hwi.1
    have hC := hI.c
    refine x_aload_n dX1_wishOf_27 3 rfl rfl ?_
    refine x_callF dX1_wishOf_28 (con_J18_hasNext (hL.ll hs) hz (by omega)) (lw_F q509 q549 q551 q108 q553) q511 q510 q552 q550 q548 (np := 0) (by decide +kernel) rfl vC_13 hz ⟨Nat.le_of_ble_eq_true rfl, Nat.le_of_ble_eq_true rfl⟩ (Nat.le_of_ble_eq_true rfl) rfl (Nat.zero_le _) (Nat.zero_le _) (rS ?_) nI'
    refine x_top (x' := 1) (by rw [decide_eq_true (by omega)]; rfl) ?_
    refine x_if_eq (tgt := 62) dX1_wishOf_33 (by decide) (fun h_ => absurd h_ (by decide)) (fun _ => ?_)
    refine x_aload_n dX1_wishOf_36 3 rfl rfl ?_
    refine x_callF dX1_wishOf_37 (con_J18_next (hL.ll hs) hz hx) (lw_F q555 q905 q907 q108 q909) q557 q556 q908 q906 q548 (np := 0) (by decide +kernel) rfl vC_13 hz ⟨Nat.le_of_ble_eq_true rfl, Nat.le_of_ble_eq_true rfl⟩ (Nat.le_of_ble_eq_true rfl) rfl (Nat.zero_le _) (Nat.zero_le _) (rA fun u σ7 h6 => ?_) nA'
    obtain ⟨rfl, hz, zU⟩ := h6
    have hR := hR.nx zn zU
    have hL := hL0.ro hR
    have ho := hL.o
    have hwc := (hL.wr hs).2 j x wv hx hwv
    refine x_ckcast dX1_wishOf_42 q915 (rcv_of vC_4 hwc) ?_
    refine x_astore (i := 4) (L' := [(4, .ref x.2), (0, .ref a), (1, .int (nI m)), (2, .int (nI s)), (3, .ref z)]) dX1_wishOf_45 (by decide) rfl ?_
    refine x_aload dX1_wishOf_47 0 rfl ?_
    refine x_getN dX1_wishOf_49 vC_4 in_X4 hwc 0 (by decide) q1078 rfl ?_
    refine x_iload_n dX1_wishOf_52 2 rfl rfl ?_
    refine x_icmp_ne (tgt := 59) dX1_wishOf_53 (by decide) (fun c1 => ?_) (fun c1 => ?_)
    · have c1 := nNe (by omega) (by omega) c1
      refine x_goto (tgt := 27) dX1_wishOf_59 (by decide) ?_
      refine x_locs (L' := [(0, .ref a), (1, .int (nI m)), (2, .int (nI s)), (3, .ref z)]) [1, 2, 3, 4] rfl ?_
      exact ih (j + 1) _ _ _ _ (by omega) hR hz (row_step hiv hwv c1) (by omega) (by omega)
    · have c1 := nEq (by omega) (by omega) c1
      have hew : wv = w := Option.some.inj ((row_found hI hs hwv c1).symm.trans hww)
      subst hew
      refine x_aload dX1_wishOf_56 0 rfl ?_
      exact x_aret dX1_wishOf_58 rfl (by first | exact Or.inl ⟨_, rfl⟩ | exact Or.inr ⟨_, rfl⟩) (Or.inr ⟨_, rfl⟩) (⟨_, rfl, hwc, hR⟩)
/-- one row, found by its number, goes out -/
theorem rm_at {r : List Wi} {m j : Nat} {wv : Wi} (hn : (r.map (fun w => w.1)).Nodup) (hw : r[j]? = some wv) (he : wv.1 = m) : rmW m r = r.eraseIdx j := by
  induction r generalizing j with
  | nil => cases hw
  | cons x xs ih =>
    rw [List.map_cons, List.nodup_cons] at hn
    cases j with
    | zero =>
      cases hw
      unfold rmW
      rw [List.filter_cons_of_neg (by simp [he])]
      refine List.filter_eq_self.mpr (fun y hy => ?_)
      have : y.1 ≠ m := fun e => hn.1 (by rw [he, ← e]; exact List.mem_map_of_mem hy)
      simp [this]
    | succ j =>
      have hx : x.1 ≠ m := fun e => hn.1 (by
        have hm : wv ∈ xs := List.mem_of_getElem? (i := j) hw
        rw [e, ← he]; exact List.mem_map_of_mem hm)
      have h9 := ih hn.2 hw
      unfold rmW at h9 ⊢
      rw [List.filter_cons_of_pos (by simp [hx]), h9]; rfl
theorem WR.rm {σ τ : AH} {ns : NL} {r : List Wi} {m j : Nat} {wv : Wi} {W : Nat → Prop} (h : WR σ ns r) (hf : Fr W σ τ) (hn : (r.map (fun w => w.1)).Nodup) (hw : r[j]? = some wv) (he : wv.1 = m) : WR τ (ns.eraseIdx j) (rmW m r) := by
  rw [rm_at hn hw he]
  have hj : j < r.length := (List.getElem?_eq_some_iff.mp hw).1
  refine ⟨by rw [List.length_eraseIdx_of_lt hj, List.length_eraseIdx_of_lt (by rw [h.1]; exact hj), h.1], fun i x w hx hv => ?_⟩
  rw [List.getElem?_eraseIdx] at hx hv
  split at hx
  · rename_i q
    rw [if_pos q] at hv
    exact hf.2.2 _ _ (h.2 i x w hx hv) rfl
  · rename_i q
    rw [if_neg q] at hv
    exact hf.2.2 _ _ (h.2 (i + 1) x w hx hv) rfl
/-- the row and a new iterator are written -/
theorem LD.list' {σ τ υ : AH} {a z : Nat} {ad : Nat → Nat} {N : Nat → NL} {mc : Nat → Int32} {S : AS} (h : LD τ a ad N mc S) {s : Nat} (hs : s < 8) {m' : Int32} {ns : NL} {r : List Wi} (h1 : LL υ (ad (10 + s)) m' ns) (h2 : Fr (fun q => q = z ∨ LW (ad (10 + s)) (N s) q) τ υ) (hz : σ z = none) (hR : RO σ τ) (h3 : ∀ x ∈ ns, (∃ y ∈ N s, x.1 = y.1) ∨ τ x.1 = none) (h4 : WR υ ns r) (hzt : ∃ e, τ z = some e ∧ tag e = 13) : LD υ a ad (fset N s ns) (fset mc s m') (sRow S s r) ∧ Fr (FP a ad N) σ υ ∧ ∀ q, FP a ad (fset N s ns) q → FP a ad N q ∨ σ q = none := by
  obtain ⟨ez, hz1, hz2⟩ := hzt
  have hnz : ∀ q e, τ q = some e → tag e ≠ 13 → q ≠ z := fun q e hq ht e2 => by
    rw [e2, hz1] at hq
    cases hq
    exact ht hz2
  -- between: as τ, but for z
  have hf : Fr (LW (ad (10 + s)) (N s)) (fun q => if q = z then none else τ q) υ := by
    refine ⟨fun q e hq hw => ?_, fun q hq => ?_, fun q e hq hi => ?_⟩
    · by_cases e2 : q = z
      · simp [e2] at hq
      · simp only [e2, if_false] at hq
        exact h2.1 q e hq (fun w => w.elim e2 hw)
    · by_cases e2 : q = z
      · simp [e2] at hq
      · simp only [e2, if_false] at hq
        exact h2.2.1 q hq
    · by_cases e2 : q = z
      · simp [e2] at hq
      · simp only [e2, if_false] at hq
        exact h2.2.2 q e hq hi
  have hro : Ke (fun q => q = z) τ (fun q => if q = z then none else τ q) := fun q e hq hn => by simp only [hn, if_false]; exact hq
  have hL : LD (fun q => if q = z then none else τ q) a ad N mc S := h.ke hro (fun q hq e => by
    obtain ⟨e1, g1, g2⟩ := h.ftag hq
    refine hnz q e1 g1 (fun z => ?_) e
    rw [z] at g2
    cases g2) (fun q e hq ht => hnz q e hq (by omega))
  obtain ⟨k1, k2, k3⟩ := hL.list hs h1 hf (fun x hx => (h3 x hx).imp id (fun w => by
    by_cases e2 : x.1 = z
    · simp [e2]
    · simp only [e2, if_false]; exact w)) h4
  have hR2 : RO σ (fun q => if q = z then none else τ q) := fun q e hq => by
    have : q ≠ z := fun e2 => by rw [e2, hz] at hq; cases hq
    simp only [this, if_false]
    exact hR q e hq
  exact ⟨k1, hR2.fr.tr k2 (fun q hq => Or.inl hq), fun q hq => (k3 q hq).imp id (fun w => hR2.nn w)⟩
theorem Fr.nxz {W : Nat → Prop} {σ τ υ : AH} {z : Nat} (h : Fr W σ τ) (hn : σ z = none) (hu : ∀ r, r ≠ z → υ r = τ r) : Fr W σ υ := by
  have hne : ∀ q, σ q ≠ none → q ≠ z := fun q hq e => hq (by rw [e]; exact hn)
  refine ⟨fun q e hq hw => ?_, fun q hq => ?_, fun q e hq hi => ?_⟩
  · rw [hu q (hne q (by rw [hq]; exact fun z => by cases z))]; exact h.1 q e hq hw
  · rw [hu q (hne q hq)]; exact h.2.1 q hq
  · rw [hu q (hne q (by rw [hq]; exact fun z => by cases z))]; exact h.2.2 q e hq hi
theorem PL.nxz {σ τ υ : AH} {a z : Nat} {ad : Nat → Nat} {N : Nat → NL} {S' : AS} (h : PL a ad N σ S' τ) (hn : σ z = none) (hzt : ∃ e, τ z = some e ∧ ftg (tag e) = false ∧ tag e ≠ 4) (hu : ∀ r, r ≠ z → υ r = τ r) : PL a ad N σ S' υ := by
  obtain ⟨N', mc', h1, h2, h3⟩ := h
  obtain ⟨e, g1, g2, g3⟩ := hzt
  exact ⟨N', mc', h1.ke (Ke.put hu) (fun q hq e2 => h1.not g1 g2 (by rw [← e2]; exact hq)) (fun q e1 hq ht e2 => by
    rw [e2, g1] at hq
    cases hq
    exact g3 ht), h2.nxz hn hu, h3⟩
set_option maxHeartbeats 4000000 in
set_option maxRecDepth 100000 in
theorem con_X1_waitsNoMore {l : Launch} {G : YG} {σ : AH} {a : Nat} {ad : Nat → Nat} {N : Nat → NL} {mc : Nat → Int32} {S : AS} {m : Nat} (hL : LD σ a ad N mc S) (hI : IV S) (hm : m < 24) : Con l yX1_waitsNoMore cX1_waitsNoMore 4 (some FieldType.int) G 7 9 45 [.ref a, .int (nI m)] σ (PI fun z τ => z = atV S m ∧ PL a ad N σ (noMore S m) τ) := by
  refine con_of (by decide) (Nat.le_of_ble_eq_true rfl) ?_
  refine x_locs (L' := [(0, .ref a), (1, .int (nI m))]) [0, 1] rfl ?_
  have ho := hL.o
  have hL0 := hL
  refine x_aload_n dX1_waitsNoMore_0 0 rfl rfl ?_
  refine x_iload_n dX1_waitsNoMore_1 1 rfl rfl ?_
  refine x_callV dX1_waitsNoMore_2 (con_X1_waitsFor hL hI hm) (lw_V q1068 q1069 q1070 q86 q1071) (np := 1) (by decide +kernel) rfl (rcv_of vC_1 ho) ⟨Nat.le_of_ble_eq_true rfl, Nat.le_of_ble_eq_true rfl⟩ (Nat.le_of_ble_eq_true rfl) rfl (by omega) (by omega) (rP fun σ1 hR => ?_) nI'
  have hL := hL.ro (hR)
  have ho := hL.o
  refine x_istore_n (i := 2) (L' := [(2, .int (atV S m)), (0, .ref a), (1, .int (nI m))]) dX1_waitsNoMore_5 rfl (by decide) rfl ?_
  refine x_iload_n dX1_waitsNoMore_6 0 rfl rfl ?_
  refine x_bipush (v := (-15)) dX1_waitsNoMore_7 (by decide) ?_
  refine x_icmp_eq (tgt := 61) dX1_waitsNoMore_9 (by decide) (fun c1 => ?_) (fun c1 => ?_)
  · have hat : aAt S m = none := by
      cases h : aAt S m with
      | none => rfl
      | some s => rw [atV_some h] at c1; exact absurd c1 ((by decide +kernel : ∀ s, s < 8 → ¬ nI s = (-15)) s (aAt_some h).1)
    refine x_iload_n dX1_waitsNoMore_61 0 rfl rfl ?_
    exact x_iret dX1_waitsNoMore_62 rfl (⟨_, rfl, rfl, by rw [noMore_none hat]; exact PL.ofro hL0 hR⟩)
  · obtain ⟨s, hat⟩ : ∃ s, aAt S m = some s := by
      cases h : aAt S m with
      | none => rw [atV_none h] at c1; exact absurd rfl c1
      | some s => exact ⟨s, rfl⟩
    have hs := (aAt_some hat).1
    obtain ⟨ww, hww⟩ := (aAt_some hat).2
    rw [noMore_at hat]
    rw [atV_some hat]
    refine x_aload_n dX1_waitsNoMore_12 1 rfl rfl ?_
    refine x_get dX1_waitsNoMore_13 vC_1 in_X1 ho 1 (by decide) q279 rfl ?_
    refine x_iload_n dX1_waitsNoMore_16 0 rfl rfl ?_
    refine x_callV dX1_waitsNoMore_17 (con_J2_get hL.al (lYs_at hs)) (lw_V q407 q408 q409 q89 q410) (np := 1) (by decide +kernel) rfl hL.al.rc ⟨Nat.le_of_ble_eq_true rfl, Nat.le_of_ble_eq_true rfl⟩ (Nat.le_of_ble_eq_true rfl) rfl (Nat.zero_le _) (Nat.zero_le _) (rSA ?_) nA'
    refine x_ckcast dX1_waitsNoMore_20 q183 (hL.ll hs).rc ?_
    refine x_callU dX1_waitsNoMore_23 (con_J3_iterator (hL.ll hs)) (lw_U q421 q422 q424 q425 q90 q426) rfl (np := 0) (by decide +kernel) rfl (hL.ll hs).rc ⟨Nat.le_of_ble_eq_true rfl, Nat.le_of_ble_eq_true rfl⟩ (Nat.le_of_ble_eq_true rfl) rfl (by omega) (by omega) (rA fun z σ3 hi2 => ?_) nA'
    obtain ⟨zn, zI, zR⟩ := hi2
    have hL := hL.ro (zR)
    have ho := hL.o
    have zn : σ z = none := hR.nn zn
    have hR := hR.tr zR
    refine x_astore_n (i := 3) (L' := [(3, .ref z), (2, .int (nI s)), (0, .ref a), (1, .int (nI m))]) dX1_waitsNoMore_26 rfl (by decide) rfl ?_
    refine x_locs (L' := [(0, .ref a), (1, .int (nI m)), (2, .int (nI s)), (3, .ref z)]) [2, 3, 1, 0] rfl ?_
    suffices loop : ∀ (d j : Nat) (τ : AH) (la : Option Nat) (k n : Nat), j + d = (qu S s).length → RO σ τ → LI τ z (ad (10 + s)) (mc s) (N s) j la → (∀ i w, i < j → (qu S s)[i]? = some w → w.1 ≠ m) → 0 ≤ k → 0 ≤ n → X l yX1_waitsNoMore cX1_waitsNoMore 4 (some FieldType.int) [] G (yroom 7 9 45) (yEnd G (yroom 7 9 45) (PI fun z τ => z = nI s ∧ PL a ad N σ (sRow S s (rmW m (qu S s))) τ)) 27 [(0, .ref a), (1, .int (nI m)), (2, .int (nI s)), (3, .ref z)] [] τ k n from loop _ 0 _ none _ _ (Nat.zero_add _) (hR) zI (fun i w hi => absurd hi (Nat.not_lt_zero i)) (by omega) (by omega)
    intro d
    induction d with
    | zero =>
      intro j τ la k n hj hR hz hiv hk0 hn0
      have hL := hL0.ro hR
      have ho := hL.o
      have hjl : j = (qu S s).length := by omega
      have hNl := (hL.wr hs).1
      refine x_aload_n dX1_waitsNoMore_27 3 rfl rfl ?_
      refine x_callF dX1_waitsNoMore_28 (con_J18_hasNext (hL.ll hs) hz (by omega)) (lw_F q509 q549 q551 q108 q553) q511 q510 q552 q550 q548 (np := 0) (by decide +kernel) rfl vC_13 hz ⟨Nat.le_of_ble_eq_true rfl, Nat.le_of_ble_eq_true rfl⟩ (Nat.le_of_ble_eq_true rfl) rfl (Nat.zero_le _) (Nat.zero_le _) (rS ?_) nI'
      refine x_top (x' := 0) (by rw [decide_eq_false (by omega)]; rfl) ?_
      refine x_if_eq (tgt := 61) dX1_waitsNoMore_33 (by decide) (fun _ => ?_) (fun h_ => absurd (rfl) h_)
      have := row_none hjl hiv
      rw [hww] at this
      cases this
    | succ d ih =>
      intro j τ la k n hj hR hz hiv hk0 hn0
      have hL := hL0.ro hR
      have ho := hL.o
      have hNl := (hL.wr hs).1
      obtain ⟨x, hx⟩ : ∃ x, (N s)[j]? = some x := ⟨_, List.getElem?_eq_getElem (by omega)⟩
      obtain ⟨wv, hwv⟩ : ∃ wv, (qu S s)[j]? = some wv := ⟨_, List.getElem?_eq_getElem (by omega)⟩
      have hwc := (hL.wr hs).2 j x wv hx hwv
      have hwi := hI.w hs (List.mem_of_getElem? hwv)
      have hwC := hI.th hwi.1
      have hC := hI.c
      refine x_aload_n dX1_waitsNoMore_27 3 rfl rfl ?_
      refine x_callF dX1_waitsNoMore_28 (con_J18_hasNext (hL.ll hs) hz (by omega)) (lw_F q509 q549 q551 q108 q553) q511 q510 q552 q550 q548 (np := 0) (by decide +kernel) rfl vC_13 hz ⟨Nat.le_of_ble_eq_true rfl, Nat.le_of_ble_eq_true rfl⟩ (Nat.le_of_ble_eq_true rfl) rfl (Nat.zero_le _) (Nat.zero_le _) (rS ?_) nI'
      refine x_top (x' := 1) (by rw [decide_eq_true (by omega)]; rfl) ?_
      refine x_if_eq (tgt := 61) dX1_waitsNoMore_33 (by decide) (fun h_ => absurd h_ (by decide)) (fun _ => ?_)
      refine x_aload_n dX1_waitsNoMore_36 3 rfl rfl ?_
      refine x_callF dX1_waitsNoMore_37 (con_J18_next (hL.ll hs) hz hx) (lw_F q555 q905 q907 q108 q909) q557 q556 q908 q906 q548 (np := 0) (by decide +kernel) rfl vC_13 hz ⟨Nat.le_of_ble_eq_true rfl, Nat.le_of_ble_eq_true rfl⟩ (Nat.le_of_ble_eq_true rfl) rfl (Nat.zero_le _) (Nat.zero_le _) (rA fun u σ7 h6 => ?_) nA'
      obtain ⟨rfl, hz, zU⟩ := h6
      have hR := hR.nx zn zU
      have hL := hL0.ro hR
      have ho := hL.o
      have hwc := (hL.wr hs).2 j x wv hx hwv
      refine x_ckcast dX1_waitsNoMore_42 q915 (rcv_of vC_4 hwc) ?_
      refine x_getN dX1_waitsNoMore_45 vC_4 in_X4 hwc 0 (by decide) q1078 rfl ?_
      refine x_iload_n dX1_waitsNoMore_48 1 rfl rfl ?_
      refine x_icmp_ne (tgt := 27) dX1_waitsNoMore_49 (by decide) (fun c1 => ?_) (fun c1 => ?_)
      · have c1 := nNe (by omega) (by omega) c1
        refine x_locs (L' := [(0, .ref a), (1, .int (nI m)), (2, .int (nI s)), (3, .ref z)]) [0, 1, 2, 3] rfl ?_
        exact ih (j + 1) _ _ _ _ (by omega) hR hz (row_step hiv hwv c1) (by omega) (by omega)
      · have c1 := nEq (by omega) (by omega) c1
        refine x_aload_n dX1_waitsNoMore_52 3 rfl rfl ?_
        refine x_callF dX1_waitsNoMore_53 (con_J18_remove (hL.ll hs) hz hx) (lw_F q1237 q1333 q1335 q108 q1337) q1239 q1238 q1336 q1334 q548 (np := 0) (by decide +kernel) rfl vC_13 hz ⟨Nat.le_of_ble_eq_true rfl, Nat.le_of_ble_eq_true rfl⟩ (Nat.le_of_ble_eq_true rfl) rfl (by omega) (by omega) (rV fun σ8 h9 => ?_) nV'
        obtain ⟨k1, k2, k3⟩ := h9
        have hWR : WR σ8 ((N s).eraseIdx j) (rmW m (qu S s)) := WR.rm (hL.wr hs) k3 (hI.nd hs) hwv c1
        have hstep := hL.list' hs k1 k3 zn hR (fun y hy => Or.inl ⟨y, List.mem_of_mem_eraseIdx hy, rfl⟩) hWR ⟨_, hz, rfl⟩
        obtain ⟨hL2, hF2, hQ2⟩ := hstep
        have hno : ∀ (i : Nat) (w : Wi), (rmW m (qu S s))[i]? = some w → w.1 ≠ m := fun i w hw => (mem_rm (List.mem_of_getElem? hw)).2
        have hjr : j ≤ (rmW m (qu S s)).length := by rw [← hWR.1, List.length_eraseIdx_of_lt (get_lt' hx)]; have := get_lt' hx; omega
        obtain ⟨d2, hd2⟩ : ∃ d2, j + d2 = (rmW m (qu S s)).length := ⟨_, Nat.add_sub_cancel' hjr⟩
        refine x_goto (tgt := 27) dX1_waitsNoMore_58 (by decide) ?_
        refine x_locs (L' := [(0, .ref a), (1, .int (nI m)), (2, .int (nI s)), (3, .ref z)]) [0, 1, 2, 3] rfl ?_
        obtain ⟨j0, hj0⟩ : ∃ j0, j0 = j := ⟨_, rfl⟩
        rw [← hj0] at k1 k2 hWR hL2 hQ2 hd2
        suffices loop2 : ∀ (d j : Nat) (τ : AH) (la : Option Nat) (k n : Nat), j + d = (rmW m (qu S s)).length → LI τ z (ad (10 + s)) (mc s + 1) ((N s).eraseIdx j0) j la → LL τ (ad (10 + s)) (mc s + 1) ((N s).eraseIdx j0) → WR τ ((N s).eraseIdx j0) (rmW m (qu S s)) → PL a ad N σ (sRow S s (rmW m (qu S s))) τ → X l yX1_waitsNoMore cX1_waitsNoMore 4 (some FieldType.int) [] G (yroom 7 9 45) (yEnd G (yroom 7 9 45) (PI fun z τ => z = nI s ∧ PL a ad N σ (sRow S s (rmW m (qu S s))) τ)) 27 [(0, .ref a), (1, .int (nI m)), (2, .int (nI s)), (3, .ref z)] [] τ k n from loop2 d2 j0 _ none _ _ hd2 k2 k1 hWR ⟨_, _, hL2, hF2, hQ2⟩
        intro d
        induction d with
        | zero =>
          intro j τ la k n hj hz hLL hW hP
          have hNl := hW.1
          refine x_aload_n dX1_waitsNoMore_27 3 rfl rfl ?_
          refine x_callF dX1_waitsNoMore_28 (con_J18_hasNext hLL hz (by omega)) (lw_F q509 q549 q551 q108 q553) q511 q510 q552 q550 q548 (np := 0) (by decide +kernel) rfl vC_13 hz ⟨Nat.le_of_ble_eq_true rfl, Nat.le_of_ble_eq_true rfl⟩ (Nat.le_of_ble_eq_true rfl) rfl (Nat.zero_le _) (Nat.zero_le _) (rS ?_) nI'
          refine x_top (x' := 0) (by rw [decide_eq_false (by omega)]; rfl) ?_
          refine x_if_eq (tgt := 61) dX1_waitsNoMore_33 (by decide) (fun _ => ?_) (fun h_ => absurd (rfl) h_)
          refine x_iload_n dX1_waitsNoMore_61 2 rfl rfl ?_
          exact x_iret dX1_waitsNoMore_62 rfl (⟨_, rfl, rfl, hP⟩)
        | succ d ih =>
          intro j τ la k n hj hz hLL hW hP
          have hNl := hW.1
          obtain ⟨x, hx⟩ : ∃ x, ((N s).eraseIdx j0)[j]? = some x := ⟨_, List.getElem?_eq_getElem (by omega)⟩
          obtain ⟨wv, hwv⟩ : ∃ wv, (rmW m (qu S s))[j]? = some wv := ⟨_, List.getElem?_eq_getElem (by omega)⟩
          have hwc := hW.2 j x wv hx hwv
          have hwi := hI.w hs (mem_rm (List.mem_of_getElem? hwv)).1
          have hwC := hI.th hwi.1
          have hC := hI.c
          refine x_aload_n dX1_waitsNoMore_27 3 rfl rfl ?_
          refine x_callF dX1_waitsNoMore_28 (con_J18_hasNext hLL hz (by omega)) (lw_F q509 q549 q551 q108 q553) q511 q510 q552 q550 q548 (np := 0) (by decide +kernel) rfl vC_13 hz ⟨Nat.le_of_ble_eq_true rfl, Nat.le_of_ble_eq_true rfl⟩ (Nat.le_of_ble_eq_true rfl) rfl (Nat.zero_le _) (Nat.zero_le _) (rS ?_) nI'
          refine x_top (x' := 1) (by rw [decide_eq_true (by omega)]; rfl) ?_
          refine x_if_eq (tgt := 61) dX1_waitsNoMore_33 (by decide) (fun h_ => absurd h_ (by decide)) (fun _ => ?_)
          refine x_aload_n dX1_waitsNoMore_36 3 rfl rfl ?_
          refine x_callF dX1_waitsNoMore_37 (con_J18_next hLL hz hx) (lw_F q555 q905 q907 q108 q909) q557 q556 q908 q906 q548 (np := 0) (by decide +kernel) rfl vC_13 hz ⟨Nat.le_of_ble_eq_true rfl, Nat.le_of_ble_eq_true rfl⟩ (Nat.le_of_ble_eq_true rfl) rfl (Nat.zero_le _) (Nat.zero_le _) (rA fun u σ12 h9 => ?_) nA'
          obtain ⟨rfl, hz9, hU⟩ := h9
          have hKe : Ke (fun q => q = z) τ σ12 := Ke.put hU
          have hnz : ∀ q e, τ q = some e → tag e ≠ 13 → ¬ q = z := fun q e hq ht e2 => by
            rw [e2, (hz : τ z = _)] at hq
            cases hq
            exact ht rfl
          have hLL9 := hLL.ke hKe (fun q hq => by obtain ⟨e, g1, g2 | g2⟩ := hLL.ltag hq; exact hnz _ _ g1 (by omega); exact hnz _ _ g1 (by omega))
          have hW9 := hW.ke hKe (fun q e hq ht => hnz _ _ hq (by omega))
          have hP9 := hP.nxz zn ⟨_, hz, rfl, Nat.ne_of_beq_eq_false rfl⟩ hU
          have hwc := hW9.2 j x wv hx hwv
          refine x_ckcast dX1_waitsNoMore_42 q915 (rcv_of vC_4 hwc) ?_
          refine x_getN dX1_waitsNoMore_45 vC_4 in_X4 hwc 0 (by decide) q1078 rfl ?_
          refine x_iload_n dX1_waitsNoMore_48 1 rfl rfl ?_
          refine x_icmp_ne (tgt := 27) dX1_waitsNoMore_49 (by decide) (fun _ => ?_) (fun h_ => absurd h_ (fun e => hno j wv hwv (nEq (by omega) (by omega) e)))
          refine x_locs (L' := [(0, .ref a), (1, .int (nI m)), (2, .int (nI s)), (3, .ref z)]) [0, 1, 2, 3] rfl ?_
          exact ih (j + 1) _ _ _ _ (by omega) hz9 hLL9 hW9 hP9
