set_option maxRecDepth 100000
set_option maxHeartbeats 4000000 in
set_option maxRecDepth 100000 in
theorem con_X1_maidText {l : Launch} {G : YG} {σ : AH} {a : Nat} {ad : Nat → Nat} {N : Nat → NL} {mc : Nat → Int32} {S : AS} {m : Nat} (hL : LD σ a ad N mc S) (hI : IV S) (hm : m < 24) : Con l yX1_maidText cX1_maidText 4 (some (FieldType.object "java/lang/String")) G 8 100 16000 [.ref a, .int (nI m)] σ (PA fun q τ => STo G σ q (tellML S m) τ) := by
  refine con_of (by decide) (Nat.le_of_ble_eq_true rfl) ?_
  refine x_locs (L' := [(0, .ref a), (1, .int (nI m))]) [0, 1] rfl ?_
  have ho := hL.o
  have hL0 := hL
  have hC := hI.c
  have hll : ∀ n, n ≤ 8 → (lockL S m n).length ≤ 24 := fun n hn => by have := lockL_len (S := S) (m := m) n; omega
  have hnl : ∀ n, (numL n).length ≤ 2 := fun n => numL_len
  have hnm := hnl m
  have hR : RO σ σ := RO.rf
  refine x_new (fs := [.null, .int 0, .int 0, .int 0]) dX1_maidText_0 vC_16 in_J10 tyJ10_ok q1743 q335 q98 rfl (by omega) (by omega) (fun sb σ1 hn2 hb3 hc4 hu5 => ?_)
  have sbn : σ sb = none := hR.nn hn2
  have hR := hR.tr (ro_new hn2 hu5)
  refine x_dup dX1_maidText_3 rfl ?_
  refine x_callI dX1_maidText_4 (con_J10_init hc4) (lw_meth q338) q98 q1744 q337 rfl (np := 0) (by decide +kernel) rfl ⟨Nat.le_of_ble_eq_true rfl, Nat.le_of_ble_eq_true rfl⟩ (Nat.le_of_ble_eq_true rfl) rfl (by omega) (by omega) (rV fun σ7 h6 => ?_) nV'
  obtain ⟨sb9, hbn, hS, sb9u⟩ := h6
  have hbn : σ sb9 = none := hR.nn hbn
  have hR := hR.keep sbn sb9u
  refine x_astore_n (i := 2) (L' := [(2, .ref sb), (0, .ref a), (1, .int (nI m))]) dX1_maidText_7 rfl (by decide) rfl ?_
  refine x_aload_n dX1_maidText_8 0 rfl rfl ?_
  refine x_iload_n dX1_maidText_9 2 rfl rfl ?_
  refine x_callV dX1_maidText_10 (con_J10_append_3 hS (n := m) (by omega) (by decide)) (lw_V q1745 q1746 q1747 q98 q1748) (np := 1) (by decide +kernel) rfl hS.rc ⟨Nat.le_of_ble_eq_true rfl, Nat.le_of_ble_eq_true rfl⟩ (Nat.le_of_ble_eq_true rfl) rfl (by omega) (by omega) (rA fun u_ σ11 h10 => ?_) nA'
  obtain ⟨hE_, sb12, N13, hS9, hK9⟩ := h10
  obtain rfl := hE_.symm
  have hR9 := hR.sk sbn hbn hK9
  have hbn := hK9.nn hR hbn
  have hR := hR9
  have hS := hS9
  refine x_bipush (v := nI 61) dX1_maidText_13 (by decide) ?_
  refine x_callV dX1_maidText_15 (con_J10_append_2 hS (c := 61) (by decide) (by simp only [List.length_append, List.length_cons, List.length_nil]; omega)) (lw_V q1770 q1510 q1511 q98 q1512) (np := 1) (by decide +kernel) rfl hS.rc ⟨Nat.le_of_ble_eq_true rfl, Nat.le_of_ble_eq_true rfl⟩ (Nat.le_of_ble_eq_true rfl) rfl (by omega) (by omega) (rA fun u_ σ15 h14 => ?_) nA'
  obtain ⟨hE_, sb16, N17, hS9, hK9⟩ := h14
  obtain rfl := hE_.symm
  have hR9 := hR.sk sbn hbn hK9
  have hbn := hK9.nn hR hbn
  have hR := hR9
  have hS := hS9
  refine x_pop dX1_maidText_18 rfl ?_
  refine x_iconst (v := nI 0) dX1_maidText_19 (by decide) ?_
  refine x_istore_n (i := 3) (L' := [(3, .int (nI 0)), (2, .ref sb), (0, .ref a), (1, .int (nI m))]) dX1_maidText_20 rfl (by decide) rfl ?_
  refine x_locs (L' := [(0, .ref a), (1, .int (nI m)), (2, .ref sb), (3, .int (nI 0))]) [2, 3, 1, 0] rfl ?_
  have hS : SB σ15 sb sb16 N17 (numL m ++ [61] ++ lockL S m 0) := by
    have h := hS
    simp only [List.nil_append] at h
    show SB _ _ _ _ (numL m ++ [61] ++ [])
    rw [List.append_nil]; exact h
  suffices loop : ∀ (d i : Nat) (τ : AH) (b1 N1 : Nat) (k n : Nat), i + d = 8 → RO σ τ → SB τ sb b1 N1 (numL m ++ [61] ++ lockL S m i) → σ b1 = none → d * 8 + 28 ≤ k → d * 1540 + 2000 ≤ n → X l yX1_maidText cX1_maidText 4 (some (FieldType.object "java/lang/String")) [] G (yroom 8 100 16000) (yEnd G (yroom 8 100 16000) (PA fun q τ => STo G σ q (tellML S m) τ)) 21 [(0, .ref a), (1, .int (nI m)), (2, .ref sb), (3, .int (nI i))] [] τ k n from loop 8 0 _ _ _ _ _ rfl hR hS hbn (by omega) (by omega)
  intro d
  induction d with
  | zero =>
    intro i τ b1 N1 k n hi hR hS hb1 hk0 hn0
    have hi8 : i = 8 := by omega
    subst hi8
    have hL := hL0.ro hR
    have ho := hL.o
    have hl8 := hll 8 (Nat.le_refl _)
    refine x_iload_n dX1_maidText_21 3 rfl rfl ?_
    refine x_bipush (v := nI 8) dX1_maidText_22 (by decide) ?_
    refine x_icmp_ge (tgt := 87) dX1_maidText_24 (by decide) (fun _ => ?_) (fun h_ => absurd (by decide) h_)
    refine x_aload_n dX1_maidText_87 0 rfl rfl ?_
    refine x_iload_n dX1_maidText_88 1 rfl rfl ?_
    cases hat : aAt S m with
    | none =>
      have hml : tellML S m = numL m ++ [61] ++ lockL S m 8 ++ [] := by unfold tellML; rw [hat]
      refine x_callV dX1_maidText_89 (con_X1_wishOf0 hL hI hm hat) (lw_V q1224 q1226 qs21 q86 q1227) (np := 1) (by decide +kernel) rfl (rcv_of vC_1 ho) ⟨Nat.le_of_ble_eq_true rfl, Nat.le_of_ble_eq_true rfl⟩ (Nat.le_of_ble_eq_true rfl) rfl (by omega) (by omega) (rN fun σ18 hR2 => ?_) nN'
      have hS := hS.ro hR2
      have hR := hR.tr hR2
      refine x_astore_nN (i := 3) (L' := [(3, .null), (0, .ref a), (1, .int (nI m)), (2, .ref sb)]) dX1_maidText_92 rfl (by decide) rfl ?_
      refine x_aload_n dX1_maidText_93 3 rfl rfl ?_
      refine x_aload_nN dX1_maidText_94 0 rfl rfl ?_
      refine x_ifnonnullN dX1_maidText_95 ?_
      refine x_ldcS (i := 1) dX1_maidText_98 rfl ?_
      refine x_goto (tgt := 137) dX1_maidText_100 (by decide) ?_
      have sbn : σ sb = none := sbn
      refine x_cst (fun hcst => ?_)
      refine x_callV dX1_maidText_137 (con_J10_append hS str1 (fun v h1 h2 hq => by rw [hcst 1 (by decide)] at hq; cases hq) (by simp only [List.length_append, List.length_cons, List.length_nil]; omega)) (lw_V q1773 q703 q704 q98 q705) (np := 1) (by decide +kernel) rfl hS.rc ⟨Nat.le_of_ble_eq_true rfl, Nat.le_of_ble_eq_true rfl⟩ (Nat.le_of_ble_eq_true rfl) rfl (by omega) (by omega) (rA fun u_ σ20 h19 => ?_) nA'
      obtain ⟨hE_, sb21, N22, hS9, hK9⟩ := h19
      obtain rfl := hE_.symm
      have hR9 := hR.sk sbn hb1 hK9
      have hb1 := hK9.nn hR hb1
      have hR := hR9
      have hS := hS9
      refine x_callV dX1_maidText_140 (con_J10_toString hS) (lw_V q1778 q809 q810 q98 q811) (np := 0) (by decide +kernel) rfl hS.rc ⟨Nat.le_of_ble_eq_true rfl, Nat.le_of_ble_eq_true rfl⟩ (Nat.le_of_ble_eq_true rfl) rfl (by omega) (by omega) (rA fun q9 σ24 h23 => ?_) nA'
      exact x_aret dX1_maidText_143 rfl (by first | exact Or.inl ⟨_, rfl⟩ | exact Or.inr ⟨_, rfl⟩) (Or.inr ⟨_, rfl⟩) (⟨_, rfl, STo.tr hR (by rw [hml]; exact h23)⟩)
    | some s =>
      have hs := (aAt_some hat).1
      obtain ⟨wv, hww⟩ := (aAt_some hat).2
      have hwi0 : aWish S m = some wv := by unfold aWish; rw [hat]; exact hww
      have hkd := kind_row hat hwi0
      have hwr := hI.w hs (wishIn_some hww).1
      have hk12 := hwr.2.1
      have hns := hnl s
      have hml : tellML S m = numL m ++ [61] ++ lockL S m 8 ++ ([63] ++ numL s ++ [sgL wv.2.1]) := by unfold tellML; rw [hat, hkd]
      refine x_callV dX1_maidText_89 (con_X1_wishOf1 hL hI hm hat hwi0) (lw_V q1224 q1226 qs21 q86 q1227) (np := 1) (by decide +kernel) rfl (rcv_of vC_1 ho) ⟨Nat.le_of_ble_eq_true rfl, Nat.le_of_ble_eq_true rfl⟩ (Nat.le_of_ble_eq_true rfl) rfl (by omega) (by omega) (rA fun b9 σ25 hb9 => ?_) nA'
      obtain ⟨hbc, hR2⟩ := hb9
      have hS := hS.ro hR2
      have hR := hR.tr hR2
      refine x_astore_n (i := 3) (L' := [(3, .ref b9), (0, .ref a), (1, .int (nI m)), (2, .ref sb)]) dX1_maidText_92 rfl (by decide) rfl ?_
      refine x_aload_n dX1_maidText_93 3 rfl rfl ?_
      refine x_aload_n dX1_maidText_94 0 rfl rfl ?_
      refine x_ifnonnull (tgt := 103) dX1_maidText_95 (by decide) ?_
      have hSb := hS
      obtain ⟨υ, hυ⟩ : ∃ υ, υ = σ25 := ⟨_, rfl⟩
      have hRi : RO υ σ25 := by rw [hυ]; exact RO.rf
      refine x_new (fs := [.null, .int 0, .int 0, .int 0]) dX1_maidText_103 vC_16 in_J10 tyJ10_ok q1743 q335 q98 rfl (by omega) (by omega) (fun sc σ26 hn27 hb28 hc29 hu30 => ?_)
      have scn : υ sc = none := hRi.nn hn27
      have hRi := hRi.tr (ro_new hn27 hu30)
      refine x_dup dX1_maidText_106 rfl ?_
      refine x_callI dX1_maidText_107 (con_J10_init hc29) (lw_meth q338) q98 q1744 q337 rfl (np := 0) (by decide +kernel) rfl ⟨Nat.le_of_ble_eq_true rfl, Nat.le_of_ble_eq_true rfl⟩ (Nat.le_of_ble_eq_true rfl) rfl (by omega) (by omega) (rV fun σ32 h31 => ?_) nV'
      obtain ⟨sb34, hbi, hSi, sb34u⟩ := h31
      have hbi : υ sb34 = none := hRi.nn hbi
      have hRi := hRi.keep scn sb34u
      refine x_ldcwS (i := 4) dX1_maidText_110 rfl ?_
      refine x_cst (fun hcst => ?_)
      refine x_callV dX1_maidText_113 (con_J10_append hSi str4 (fun v h1 h2 hq => by rw [hcst 4 (by decide)] at hq; cases hq) (by simp only [List.length_append, List.length_cons, List.length_nil]; omega)) (lw_V q1773 q703 q704 q98 q705) (np := 1) (by decide +kernel) rfl hSi.rc ⟨Nat.le_of_ble_eq_true rfl, Nat.le_of_ble_eq_true rfl⟩ (Nat.le_of_ble_eq_true rfl) rfl (by omega) (by omega) (rA fun u_ σ36 h35 => ?_) nA'
      obtain ⟨hE_, sb37, N38, hSi9, hK9⟩ := h35
      obtain rfl := hE_.symm
      have hR9 := hRi.sk scn hbi hK9
      have hbi := hK9.nn hRi hbi
      have hRi := hR9
      have hSi := hSi9
      refine x_aload_n dX1_maidText_116 1 rfl rfl ?_
      refine x_iload_n dX1_maidText_117 2 rfl rfl ?_
      have hL := hL0.ro (hR.tr (by rw [← hυ]; exact hRi))
      have ho := hL.o
      refine x_callV dX1_maidText_118 (con_X1_waitsFor hL hI hm) (lw_V q1068 q1069 q1070 q86 q1071) (np := 1) (by decide +kernel) rfl (rcv_of vC_1 ho) ⟨Nat.le_of_ble_eq_true rfl, Nat.le_of_ble_eq_true rfl⟩ (Nat.le_of_ble_eq_true rfl) rfl (by omega) (by omega) (rP fun σ39 hR3 => ?_) nI'
      have hSi := hSi.ro hR3
      have hRi := hRi.tr hR3
      refine x_top (x' := nI s) (atV_some hat) ?_
      refine x_callV dX1_maidText_121 (con_J10_append_3 hSi (n := s) (by omega) (by simp only [List.length_append, List.length_cons, List.length_nil]; omega)) (lw_V q1745 q1746 q1747 q98 q1748) (np := 1) (by decide +kernel) rfl hSi.rc ⟨Nat.le_of_ble_eq_true rfl, Nat.le_of_ble_eq_true rfl⟩ (Nat.le_of_ble_eq_true rfl) rfl (by omega) (by omega) (rA fun u_ σ41 h40 => ?_) nA'
      obtain ⟨hE_, sb42, N43, hSi9, hK9⟩ := h40
      obtain rfl := hE_.symm
      have hR9 := hRi.sk scn hbi hK9
      have hbi := hK9.nn hRi hbi
      have hRi := hR9
      have hSi := hSi9
      have hbc9 := (show RO σ25 σ41 by rw [← hυ]; exact hRi) _ _ hbc
      refine x_aload_n dX1_maidText_124 0 rfl rfl ?_
      refine x_getN dX1_maidText_125 vC_4 in_X4 hbc9 1 (by decide) q1081 rfl ?_
      refine x_callSN dX1_maidText_128 (con_X0_signOf (k := wv.2.1) hk12) (lw_meth q1776) q85 q1774 q1775 (np := 1) (by decide +kernel) rfl ⟨Nat.le_of_ble_eq_true rfl, Nat.le_of_ble_eq_true rfl⟩ (Nat.le_of_ble_eq_true rfl) rfl (Nat.zero_le _) (Nat.zero_le _) (rS ?_) nI'
      refine x_callV dX1_maidText_131 (con_J10_append_2 hSi (c := sgL wv.2.1) (sgL_lt) (by simp only [List.length_append, List.length_cons, List.length_nil]; omega)) (lw_V q1770 q1510 q1511 q98 q1512) (np := 1) (by decide +kernel) rfl hSi.rc ⟨Nat.le_of_ble_eq_true rfl, Nat.le_of_ble_eq_true rfl⟩ (Nat.le_of_ble_eq_true rfl) rfl (by omega) (by omega) (rA fun u_ σ46 h45 => ?_) nA'
      obtain ⟨hE_, sb47, N48, hSi9, hK9⟩ := h45
      obtain rfl := hE_.symm
      have hR9 := hRi.sk scn hbi hK9
      have hbi := hK9.nn hRi hbi
      have hRi := hR9
      have hSi := hSi9
      refine x_callV dX1_maidText_134 (con_J10_toString hSi) (lw_V q1778 q809 q810 q98 q811) (np := 0) (by decide +kernel) rfl hSi.rc ⟨Nat.le_of_ble_eq_true rfl, Nat.le_of_ble_eq_true rfl⟩ (Nat.le_of_ble_eq_true rfl) rfl (by omega) (by omega) (rA fun qs σ50 h49 => ?_) nA'
      obtain ⟨-, hqS, ⟨qv, hqc, hqvn⟩, hqR⟩ := STo.tr hRi h49
      have hRb : RO σ25 σ50 := by rw [← hυ]; exact hqR
      have hS := hS.ro hRb
      have hR := hR.tr hRb
      have hbq : ∀ v h1 h2, σ50 qs = some (.inr (17, [.ref v, .int 0, h1, h2])) → v ≠ b1 := fun v h1 h2 hq e => by
        rw [hqc] at hq
        cases hq
        obtain ⟨f, hf, -⟩ := hSb.2.1
        rw [hυ, e, hf] at hqvn
        cases hqvn
      refine x_callV dX1_maidText_137 (con_J10_append hS hqS hbq (by simp only [List.length_append, List.length_cons, List.length_nil]; omega)) (lw_V q1773 q703 q704 q98 q705) (np := 1) (by decide +kernel) rfl hS.rc ⟨Nat.le_of_ble_eq_true rfl, Nat.le_of_ble_eq_true rfl⟩ (Nat.le_of_ble_eq_true rfl) rfl (by omega) (by omega) (rA fun u_ σ52 h51 => ?_) nA'
      obtain ⟨hE_, sb53, N54, hS9, hK9⟩ := h51
      obtain rfl := hE_.symm
      have hR9 := hR.sk sbn hb1 hK9
      have hb1 := hK9.nn hR hb1
      have hR := hR9
      have hS := hS9
      refine x_callV dX1_maidText_140 (con_J10_toString hS) (lw_V q1778 q809 q810 q98 q811) (np := 0) (by decide +kernel) rfl hS.rc ⟨Nat.le_of_ble_eq_true rfl, Nat.le_of_ble_eq_true rfl⟩ (Nat.le_of_ble_eq_true rfl) rfl (by omega) (by omega) (rA fun q9 σ56 h55 => ?_) nA'
      exact x_aret dX1_maidText_143 rfl (by first | exact Or.inl ⟨_, rfl⟩ | exact Or.inr ⟨_, rfl⟩) (Or.inr ⟨_, rfl⟩) (⟨_, rfl, STo.tr hR (by rw [hml]; exact h55)⟩)
  | succ d ih =>
    intro i τ b1 N1 k n hi hR hS hb1 hk0 hn0
    have hi8 : i < 8 := by omega
    have hL := hL0.ro hR
    have ho := hL.o
    have hli := hll i (by omega)
    have hni := hnl i
    have h2 := hI.2.2.1 m i
    refine x_iload_n dX1_maidText_21 3 rfl rfl ?_
    refine x_bipush (v := nI 8) dX1_maidText_22 (by decide) ?_
    refine x_icmp_ge (tgt := 87) dX1_maidText_24 (by decide) (fun h_ => absurd h_ (fun h => absurd (nLe (by omega) (by omega) h) (by omega))) (fun _ => ?_)
    refine x_aload_n dX1_maidText_27 2 rfl rfl ?_
    refine x_aload_n dX1_maidText_28 0 rfl rfl ?_
    refine x_get dX1_maidText_29 vC_1 in_X1 ho 0 (by decide) q277 rfl ?_
    refine x_iload_n dX1_maidText_32 1 rfl rfl ?_
    obtain ⟨fh57, hh58, hv59⟩ := hL.2.1
    refine x_aald7 (N := 24) (j := m) dX1_maidText_33 hh58 rfl (hm) (by decide) (hv59 _ (hm)) ?_
    refine x_iload_n dX1_maidText_34 3 rfl rfl ?_
    obtain ⟨fr60, hr61, hw62⟩ := hL.row (m := m) (hm)
    refine x_sald (N := 8) (j := i) (v := nI (hw S m i)) dX1_maidText_35 hr61 rfl (hi8) (by decide) (hw62 _ (hi8)) ?_
    refine x_if_ne (tgt := 44) dX1_maidText_36 (by decide) (fun c1 => ?_) (fun c1 => ?_)
    · have c1 := nN0 c1
      have hSb := hS
      obtain ⟨υ, hυ⟩ : ∃ υ, υ = τ := ⟨_, rfl⟩
      have hRi : RO υ τ := by rw [hυ]; exact RO.rf
      refine x_new (fs := [.null, .int 0, .int 0, .int 0]) dX1_maidText_44 vC_16 in_J10 tyJ10_ok q1743 q335 q98 rfl (by omega) (by omega) (fun sc σ63 hn64 hb65 hc66 hu67 => ?_)
      have scn : υ sc = none := hRi.nn hn64
      have hRi := hRi.tr (ro_new hn64 hu67)
      refine x_dup dX1_maidText_47 rfl ?_
      refine x_callI dX1_maidText_48 (con_J10_init hc66) (lw_meth q338) q98 q1744 q337 rfl (np := 0) (by decide +kernel) rfl ⟨Nat.le_of_ble_eq_true rfl, Nat.le_of_ble_eq_true rfl⟩ (Nat.le_of_ble_eq_true rfl) rfl (by omega) (by omega) (rV fun σ69 h68 => ?_) nV'
      obtain ⟨sb71, hbi, hSi, sb71u⟩ := h68
      have hbi : υ sb71 = none := hRi.nn hbi
      have hRi := hRi.keep scn sb71u
      refine x_ldcS (i := 1) dX1_maidText_51 rfl ?_
      refine x_cst (fun hcst => ?_)
      refine x_callV dX1_maidText_53 (con_J10_append hSi str1 (fun v h1 h2 hq => by rw [hcst 1 (by decide)] at hq; cases hq) (by simp only [List.length_append, List.length_cons, List.length_nil]; omega)) (lw_V q1773 q703 q704 q98 q705) (np := 1) (by decide +kernel) rfl hSi.rc ⟨Nat.le_of_ble_eq_true rfl, Nat.le_of_ble_eq_true rfl⟩ (Nat.le_of_ble_eq_true rfl) rfl (by omega) (by omega) (rA fun u_ σ73 h72 => ?_) nA'
      obtain ⟨hE_, sb74, N75, hSi9, hK9⟩ := h72
      obtain rfl := hE_.symm
      have hR9 := hRi.sk scn hbi hK9
      have hbi := hK9.nn hRi hbi
      have hRi := hR9
      have hSi := hSi9
      refine x_iload_n dX1_maidText_56 3 rfl rfl ?_
      refine x_callV dX1_maidText_57 (con_J10_append_3 hSi (n := i) (by omega) (by simp only [List.length_append, List.length_cons, List.length_nil]; omega)) (lw_V q1745 q1746 q1747 q98 q1748) (np := 1) (by decide +kernel) rfl hSi.rc ⟨Nat.le_of_ble_eq_true rfl, Nat.le_of_ble_eq_true rfl⟩ (Nat.le_of_ble_eq_true rfl) rfl (by omega) (by omega) (rA fun u_ σ77 h76 => ?_) nA'
      obtain ⟨hE_, sb78, N79, hSi9, hK9⟩ := h76
      obtain rfl := hE_.symm
      have hR9 := hRi.sk scn hbi hK9
      have hbi := hK9.nn hRi hbi
      have hRi := hR9
      have hSi := hSi9
      have hL := hL0.ro (hR.tr (by rw [← hυ]; exact hRi))
      have ho := hL.o
      refine x_aload_n dX1_maidText_60 0 rfl rfl ?_
      refine x_get dX1_maidText_61 vC_1 in_X1 ho 0 (by decide) q277 rfl ?_
      refine x_iload_n dX1_maidText_64 1 rfl rfl ?_
      obtain ⟨fh80, hh81, hv82⟩ := hL.2.1
      refine x_aald7 (N := 24) (j := m) dX1_maidText_65 hh81 rfl (hm) (by decide) (hv82 _ (hm)) ?_
      refine x_iload_n dX1_maidText_66 3 rfl rfl ?_
      obtain ⟨fr83, hr84, hw85⟩ := hL.row (m := m) (hm)
      refine x_sald (N := 8) (j := i) (v := nI (hw S m i)) dX1_maidText_67 hr84 rfl (hi8) (by decide) (hw85 _ (hi8)) ?_
      refine x_callSN dX1_maidText_68 (con_X0_signOf (k := hw S m i) (by omega)) (lw_meth q1776) q85 q1774 q1775 (np := 1) (by decide +kernel) rfl ⟨Nat.le_of_ble_eq_true rfl, Nat.le_of_ble_eq_true rfl⟩ (Nat.le_of_ble_eq_true rfl) rfl (Nat.zero_le _) (Nat.zero_le _) (rS ?_) nI'
      refine x_callV dX1_maidText_71 (con_J10_append_2 hSi (c := sgL (hw S m i)) (sgL_lt) (by simp only [List.length_append, List.length_cons, List.length_nil]; omega)) (lw_V q1770 q1510 q1511 q98 q1512) (np := 1) (by decide +kernel) rfl hSi.rc ⟨Nat.le_of_ble_eq_true rfl, Nat.le_of_ble_eq_true rfl⟩ (Nat.le_of_ble_eq_true rfl) rfl (by omega) (by omega) (rA fun u_ σ88 h87 => ?_) nA'
      obtain ⟨hE_, sb89, N90, hSi9, hK9⟩ := h87
      obtain rfl := hE_.symm
      have hR9 := hRi.sk scn hbi hK9
      have hbi := hK9.nn hRi hbi
      have hRi := hR9
      have hSi := hSi9
      refine x_callV dX1_maidText_74 (con_J10_toString hSi) (lw_V q1778 q809 q810 q98 q811) (np := 0) (by decide +kernel) rfl hSi.rc ⟨Nat.le_of_ble_eq_true rfl, Nat.le_of_ble_eq_true rfl⟩ (Nat.le_of_ble_eq_true rfl) rfl (by omega) (by omega) (rA fun qs σ92 h91 => ?_) nA'
      obtain ⟨-, hqS, ⟨qv, hqc, hqvn⟩, hqR⟩ := STo.tr hRi h91
      have hRb : RO τ σ92 := by rw [← hυ]; exact hqR
      have hS := hS.ro hRb
      have hR := hR.tr hRb
      have hbq : ∀ v h1 h2, σ92 qs = some (.inr (17, [.ref v, .int 0, h1, h2])) → v ≠ b1 := fun v h1 h2 hq e => by
        rw [hqc] at hq
        cases hq
        obtain ⟨f, hf, -⟩ := hSb.2.1
        rw [hυ, e, hf] at hqvn
        cases hqvn
      refine x_callV dX1_maidText_77 (con_J10_append hS hqS hbq (by simp only [List.length_append, List.length_cons, List.length_nil]; omega)) (lw_V q1773 q703 q704 q98 q705) (np := 1) (by decide +kernel) rfl hS.rc ⟨Nat.le_of_ble_eq_true rfl, Nat.le_of_ble_eq_true rfl⟩ (Nat.le_of_ble_eq_true rfl) rfl (by omega) (by omega) (rA fun u_ σ94 h93 => ?_) nA'
      obtain ⟨hE_, sb95, N96, hS9, hK9⟩ := h93
      obtain rfl := hE_.symm
      have hR9 := hR.sk sbn hb1 hK9
      have hb1 := hK9.nn hR hb1
      have hR := hR9
      have hS := hS9
      have hS : SB σ94 sb sb95 N96 (numL m ++ [61] ++ lockL S m (i + 1)) := by
        have h := hS
        rw [lockL_s, if_neg c1]
        simp only [List.nil_append, List.append_nil, List.append_assoc] at h ⊢
        exact h
      refine x_pop dX1_maidText_80 rfl ?_
      refine x_iinc (i := 3) (q := 3) (v := nI (i + 1)) (L' := [(3, .int (nI (i + 1))), (0, .ref a), (1, .int (nI m)), (2, .ref sb)]) dX1_maidText_81 rfl (nI_1 _) (by decide) rfl ?_
      refine x_goto (tgt := 21) dX1_maidText_84 (by decide) ?_
      refine x_locs (L' := [(0, .ref a), (1, .int (nI m)), (2, .ref sb), (3, .int (nI (i + 1)))]) [1, 2, 3, 0] rfl ?_
      exact ih (i + 1) _ _ _ _ _ (by omega) hR hS hb1 (by omega) (by omega)
    · have c1 := n0 (by omega) c1
      refine x_ldcS (i := 1) dX1_maidText_39 rfl ?_
      refine x_goto (tgt := 77) dX1_maidText_41 (by decide) ?_
      refine x_cst (fun hcst => ?_)
      refine x_callV dX1_maidText_77 (con_J10_append hS str1 (fun v h1 h2 hq => by rw [hcst 1 (by decide)] at hq; cases hq) (by simp only [List.length_append, List.length_cons, List.length_nil]; omega)) (lw_V q1773 q703 q704 q98 q705) (np := 1) (by decide +kernel) rfl hS.rc ⟨Nat.le_of_ble_eq_true rfl, Nat.le_of_ble_eq_true rfl⟩ (Nat.le_of_ble_eq_true rfl) rfl (by omega) (by omega) (rA fun u_ σ98 h97 => ?_) nA'
      obtain ⟨hE_, sb99, N100, hS9, hK9⟩ := h97
      obtain rfl := hE_.symm
      have hR9 := hR.sk sbn hb1 hK9
      have hb1 := hK9.nn hR hb1
      have hR := hR9
      have hS := hS9
      have hS : SB σ98 sb sb99 N100 (numL m ++ [61] ++ lockL S m (i + 1)) := by
        have h := hS
        rw [lockL_s, if_pos c1, List.append_nil]; rw [List.append_nil] at h; exact h
      refine x_pop dX1_maidText_80 rfl ?_
      refine x_iinc (i := 3) (q := 3) (v := nI (i + 1)) (L' := [(3, .int (nI (i + 1))), (0, .ref a), (1, .int (nI m)), (2, .ref sb)]) dX1_maidText_81 rfl (nI_1 _) (by decide) rfl ?_
      refine x_goto (tgt := 21) dX1_maidText_84 (by decide) ?_
      refine x_locs (L' := [(0, .ref a), (1, .int (nI m)), (2, .ref sb), (3, .int (nI (i + 1)))]) [1, 2, 3, 0] rfl ?_
      exact ih (i + 1) _ _ _ _ _ (by omega) hR hS hb1 (by omega) (by omega)
