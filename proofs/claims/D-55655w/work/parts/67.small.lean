set_option maxRecDepth 100000
theorem vb_add {n : Nat} (h : n < 128) : vb_c (128 + n) = nI n := (by decide +kernel : ∀ n, n < 128 → vb_c (128 + n) = nI n) n h
/-- the box of a small number -/
abbrev bx (G : YG) (n : Nat) : Nat := gc G (1000 + (128 + n))
theorem bx_rc {G : YG} {σ : AH} {n : Nat} (h : n < 128) : rcv G σ "java/lang/Integer" (bx G n) := Or.inr (Or.inr ⟨rfl, 128 + n, by omega, rfl⟩)
set_option maxHeartbeats 4000000 in
set_option maxRecDepth 100000 in
theorem con_J20_valueOf {l : Launch} {G : YG} {σ : AH} {n : Nat} (hn : n < 128) : Con l yJ20_valueOf cJ20_valueOf 1 (some (FieldType.object "java/lang/Integer")) G 0 0 0 [.int (nI n)] σ (PA fun z τ => z = bx G n ∧ τ = σ) := by
  refine con_of (by decide) (Nat.le_of_ble_eq_true rfl) ?_
  refine x_locs (L' := [(0, .int (nI n))]) [0] rfl ?_
  refine x_iload_n dJ20_valueOf_0 0 rfl rfl ?_
  refine x_bipush (v := (-128)) dJ20_valueOf_1 (by decide) ?_
  refine x_icmp_lt (tgt := 23) dJ20_valueOf_3 (by decide) (fun h_ => absurd h_ (fun h => absurd h (by have := (by decide +kernel : ∀ n, n < 128 → ¬ nI n < (-128)) n hn; exact this))) (fun _ => ?_)
  refine x_iload_n dJ20_valueOf_6 0 rfl rfl ?_
  refine x_gets (i := 1) (v := .int (nI 127)) dJ20_valueOf_7 q574 rfl ?_
  refine x_icmp_gt (tgt := 23) dJ20_valueOf_10 (by decide) (fun h_ => absurd h_ (fun h => absurd (nLt (by decide) (by omega) h) (by omega))) (fun _ => ?_)
  refine x_gets (i := 2) (v := .ref (gc G 20)) dJ20_valueOf_13 q576 rfl ?_
  refine x_iload_n dJ20_valueOf_16 0 rfl rfl ?_
  refine x_sipush (v := nI 128) dJ20_valueOf_17 (by decide) ?_
  refine x_iadd dJ20_valueOf_20 ?_
  refine x_top (x' := nI (n + 128)) (nI_add _ _) ?_
  refine x_tqI (j := 128 + n) dJ20_valueOf_21 (by rw [Nat.add_comm]) (by omega) ?_
  exact x_aret dJ20_valueOf_22 rfl (by first | exact Or.inl ⟨_, rfl⟩ | exact Or.inr ⟨_, rfl⟩) (Or.inr ⟨_, rfl⟩) (⟨_, rfl, rfl, rfl⟩)
set_option maxHeartbeats 4000000 in
set_option maxRecDepth 100000 in
theorem con_J20_intValue {l : Launch} {G : YG} {σ : AH} {n : Nat} (hn : n < 128) : Con l yJ20_intValue cJ20_intValue 1 (some FieldType.int) G 0 0 0 [.ref (bx G n)] σ (PS σ (nI n)) := by
  refine con_of (by decide) (Nat.le_of_ble_eq_true rfl) ?_
  refine x_locs (L' := [(0, .ref (bx G n))]) [0] rfl ?_
  refine x_aload_n dJ20_intValue_0 0 rfl rfl ?_
  refine x_getKi (j := 128 + n) dJ20_intValue_1 (by omega) q587 ?_
  refine x_top (x' := nI n) (vb_add hn) ?_
  exact x_iret dJ20_intValue_4 rfl (pS)
set_option maxHeartbeats 4000000 in
set_option maxRecDepth 100000 in
theorem con_J21_init_3R {l : Launch} {G : YG} {σ : AH} {a : Nat} (ha : σ a = some (.inr (3, [.null, .null, .null, .null, .null, .int 0, .int 0, .int 0]))) : Con l yJ21_init_3 cJ21_init_3 5 none G 1 0 0 [.ref a, .null, .null, .int (nI 0), .int (nI 0)] σ (PV fun τ => τ a = some (.inr (3, [.null, .null, .null, .null, .null, .int 0, .int 0, .int 0])) ∧ ∀ r, r ≠ a → τ r = σ r) := by
  refine con_of (by decide) (Nat.le_of_ble_eq_true rfl) ?_
  refine x_locs (L' := [(0, .ref a), (1, .null), (2, .null), (3, .int (nI 0)), (4, .int (nI 0))]) [0, 1, 2, 3, 4] rfl ?_
  have hK : Kp (fun r => r = a) σ σ := Kp.rf
  refine x_aload_n dJ21_init_3_0 0 rfl rfl ?_
  refine x_objInit dJ21_init_3_1 q642 q135 q136 ⟨by first | exact Nat.le_of_ble_eq_true rfl | (unfold yroom; simp only; omega), by first | exact Nat.le_of_ble_eq_true rfl | (unfold yroom; simp only; omega)⟩ rfl ?_
  refine x_aload_n dJ21_init_3_4 0 rfl rfl ?_
  refine x_aload_n dJ21_init_3_5 0 rfl rfl ?_
  refine x_put (fs' := [.ref a, .null, .null, .null, .null, .int 0, .int 0, .int 0]) dJ21_init_3_6 vC_3 in_X3 tyX3_ok nmX3 ha 0 (by decide) q870 rfl rfl (rfl) (rfl) (Nat.le_of_ble_eq_true rfl) rfl (fun σ1 hc3 hu2 => ?_)
  have hK := hK.put hu2 rfl
  refine x_aload_n dJ21_init_3_9 0 rfl rfl ?_
  refine x_gets (i := 6) (v := gv G 1) dJ21_init_3_10 q643 rfl ?_
  refine x_gv (fun _ => ?_) (fun b10 _ => ?_)
  · refine x_put (fs' := [.ref a, .null, .null, .null, .null, .int 0, .int 0, .int 0]) dJ21_init_3_13 vC_3 in_X3 tyX3_ok nmX3 hc3 1 (by decide) q871 rfl rfl (rfl) (rfl) (Nat.le_of_ble_eq_true rfl) rfl (fun σ4 hc6 hu5 => ?_)
    have hK := hK.put hu5 rfl
    refine x_aload_n dJ21_init_3_16 0 rfl rfl ?_
    refine x_gets (i := 7) (v := gv G 2) dJ21_init_3_17 q645 rfl ?_
    refine x_gv (fun _ => ?_) (fun b4 _ => ?_)
    · refine x_put (fs' := [.ref a, .null, .null, .null, .null, .int 0, .int 0, .int 0]) dJ21_init_3_20 vC_3 in_X3 tyX3_ok nmX3 hc6 2 (by decide) q872 rfl rfl (rfl) (rfl) (Nat.le_of_ble_eq_true rfl) rfl (fun σ7 hc9 hu8 => ?_)
      have hK := hK.put hu8 rfl
      refine x_iload dJ21_init_3_23 4 rfl ?_
      refine x_if_eq (tgt := 36) dJ21_init_3_25 (by decide) (fun _ => ?_) (fun h_ => absurd (rfl) h_)
      refine x_aload_n dJ21_init_3_36 0 rfl rfl ?_
      refine x_null dJ21_init_3_37 ?_
      refine x_put (fs' := [.ref a, .null, .null, .null, .null, .int 0, .int 0, .int 0]) dJ21_init_3_38 vC_3 in_X3 tyX3_ok nmX3 hc9 1 (by decide) q871 rfl rfl (rfl) (rfl) (Nat.le_of_ble_eq_true rfl) rfl (fun σ10 hc12 hu11 => ?_)
      have hK := hK.put hu11 rfl
      refine x_aload_n dJ21_init_3_41 0 rfl rfl ?_
      refine x_aload_nN dJ21_init_3_42 1 rfl rfl ?_
      refine x_put (fs' := [.ref a, .null, .null, .null, .null, .int 0, .int 0, .int 0]) dJ21_init_3_43 vC_3 in_X3 tyX3_ok nmX3 hc12 3 (by decide) q869 rfl rfl (rfl) (rfl) (Nat.le_of_ble_eq_true rfl) rfl (fun σ13 hc15 hu14 => ?_)
      have hK := hK.put hu14 rfl
      refine x_aload_n dJ21_init_3_46 0 rfl rfl ?_
      refine x_aload_nN dJ21_init_3_47 2 rfl rfl ?_
      refine x_put (fs' := [.null, .null, .null, .null, .null, .int 0, .int 0, .int 0]) dJ21_init_3_48 vC_3 in_X3 tyX3_ok nmX3 hc15 0 (by decide) q870 rfl rfl (rfl) (rfl) (Nat.le_of_ble_eq_true rfl) rfl (fun σ16 hc18 hu17 => ?_)
      have hK := hK.put hu17 rfl
      refine x_iload_n dJ21_init_3_51 3 rfl rfl ?_
      refine x_if_ne (tgt := 60) dJ21_init_3_52 (by decide) (fun h_ => absurd (rfl) h_) (fun _ => ?_)
      refine x_aload_n dJ21_init_3_55 0 rfl rfl ?_
      refine x_null dJ21_init_3_56 ?_
      refine x_put (fs' := [.null, .null, .null, .null, .null, .int 0, .int 0, .int 0]) dJ21_init_3_57 vC_3 in_X3 tyX3_ok nmX3 hc18 2 (by decide) q872 rfl rfl (rfl) (rfl) (Nat.le_of_ble_eq_true rfl) rfl (fun σ19 hc21 hu20 => ?_)
      have hK := hK.put hu20 rfl
      exact x_vret dJ21_init_3_60 rfl (⟨rfl, hc21, hK⟩)
    · refine x_put (fs' := [.ref a, .null, .ref b4, .null, .null, .int 0, .int 0, .int 0]) dJ21_init_3_20 vC_3 in_X3 tyX3_ok nmX3 hc6 2 (by decide) q872 rfl rfl (rfl) (rfl) (Nat.le_of_ble_eq_true rfl) rfl (fun σ22 hc24 hu23 => ?_)
      have hK := hK.put hu23 rfl
      refine x_iload dJ21_init_3_23 4 rfl ?_
      refine x_if_eq (tgt := 36) dJ21_init_3_25 (by decide) (fun _ => ?_) (fun h_ => absurd (rfl) h_)
      refine x_aload_n dJ21_init_3_36 0 rfl rfl ?_
      refine x_null dJ21_init_3_37 ?_
      refine x_put (fs' := [.ref a, .null, .ref b4, .null, .null, .int 0, .int 0, .int 0]) dJ21_init_3_38 vC_3 in_X3 tyX3_ok nmX3 hc24 1 (by decide) q871 rfl rfl (rfl) (rfl) (Nat.le_of_ble_eq_true rfl) rfl (fun σ25 hc27 hu26 => ?_)
      have hK := hK.put hu26 rfl
      refine x_aload_n dJ21_init_3_41 0 rfl rfl ?_
      refine x_aload_nN dJ21_init_3_42 1 rfl rfl ?_
      refine x_put (fs' := [.ref a, .null, .ref b4, .null, .null, .int 0, .int 0, .int 0]) dJ21_init_3_43 vC_3 in_X3 tyX3_ok nmX3 hc27 3 (by decide) q869 rfl rfl (rfl) (rfl) (Nat.le_of_ble_eq_true rfl) rfl (fun σ28 hc30 hu29 => ?_)
      have hK := hK.put hu29 rfl
      refine x_aload_n dJ21_init_3_46 0 rfl rfl ?_
      refine x_aload_nN dJ21_init_3_47 2 rfl rfl ?_
      refine x_put (fs' := [.null, .null, .ref b4, .null, .null, .int 0, .int 0, .int 0]) dJ21_init_3_48 vC_3 in_X3 tyX3_ok nmX3 hc30 0 (by decide) q870 rfl rfl (rfl) (rfl) (Nat.le_of_ble_eq_true rfl) rfl (fun σ31 hc33 hu32 => ?_)
      have hK := hK.put hu32 rfl
      refine x_iload_n dJ21_init_3_51 3 rfl rfl ?_
      refine x_if_ne (tgt := 60) dJ21_init_3_52 (by decide) (fun h_ => absurd (rfl) h_) (fun _ => ?_)
      refine x_aload_n dJ21_init_3_55 0 rfl rfl ?_
      refine x_null dJ21_init_3_56 ?_
      refine x_put (fs' := [.null, .null, .null, .null, .null, .int 0, .int 0, .int 0]) dJ21_init_3_57 vC_3 in_X3 tyX3_ok nmX3 hc33 2 (by decide) q872 rfl rfl (rfl) (rfl) (Nat.le_of_ble_eq_true rfl) rfl (fun σ34 hc36 hu35 => ?_)
      have hK := hK.put hu35 rfl
      exact x_vret dJ21_init_3_60 rfl (⟨rfl, hc36, hK⟩)
  · refine x_put (fs' := [.ref a, .ref b10, .null, .null, .null, .int 0, .int 0, .int 0]) dJ21_init_3_13 vC_3 in_X3 tyX3_ok nmX3 hc3 1 (by decide) q871 rfl rfl (rfl) (rfl) (Nat.le_of_ble_eq_true rfl) rfl (fun σ37 hc39 hu38 => ?_)
    have hK := hK.put hu38 rfl
    refine x_aload_n dJ21_init_3_16 0 rfl rfl ?_
    refine x_gets (i := 7) (v := gv G 2) dJ21_init_3_17 q645 rfl ?_
    refine x_gv (fun _ => ?_) (fun b4 _ => ?_)
    · refine x_put (fs' := [.ref a, .ref b10, .null, .null, .null, .int 0, .int 0, .int 0]) dJ21_init_3_20 vC_3 in_X3 tyX3_ok nmX3 hc39 2 (by decide) q872 rfl rfl (rfl) (rfl) (Nat.le_of_ble_eq_true rfl) rfl (fun σ40 hc42 hu41 => ?_)
      have hK := hK.put hu41 rfl
      refine x_iload dJ21_init_3_23 4 rfl ?_
      refine x_if_eq (tgt := 36) dJ21_init_3_25 (by decide) (fun _ => ?_) (fun h_ => absurd (rfl) h_)
      refine x_aload_n dJ21_init_3_36 0 rfl rfl ?_
      refine x_null dJ21_init_3_37 ?_
      refine x_put (fs' := [.ref a, .null, .null, .null, .null, .int 0, .int 0, .int 0]) dJ21_init_3_38 vC_3 in_X3 tyX3_ok nmX3 hc42 1 (by decide) q871 rfl rfl (rfl) (rfl) (Nat.le_of_ble_eq_true rfl) rfl (fun σ43 hc45 hu44 => ?_)
      have hK := hK.put hu44 rfl
      refine x_aload_n dJ21_init_3_41 0 rfl rfl ?_
      refine x_aload_nN dJ21_init_3_42 1 rfl rfl ?_
      refine x_put (fs' := [.ref a, .null, .null, .null, .null, .int 0, .int 0, .int 0]) dJ21_init_3_43 vC_3 in_X3 tyX3_ok nmX3 hc45 3 (by decide) q869 rfl rfl (rfl) (rfl) (Nat.le_of_ble_eq_true rfl) rfl (fun σ46 hc48 hu47 => ?_)
      have hK := hK.put hu47 rfl
      refine x_aload_n dJ21_init_3_46 0 rfl rfl ?_
      refine x_aload_nN dJ21_init_3_47 2 rfl rfl ?_
      refine x_put (fs' := [.null, .null, .null, .null, .null, .int 0, .int 0, .int 0]) dJ21_init_3_48 vC_3 in_X3 tyX3_ok nmX3 hc48 0 (by decide) q870 rfl rfl (rfl) (rfl) (Nat.le_of_ble_eq_true rfl) rfl (fun σ49 hc51 hu50 => ?_)
      have hK := hK.put hu50 rfl
      refine x_iload_n dJ21_init_3_51 3 rfl rfl ?_
      refine x_if_ne (tgt := 60) dJ21_init_3_52 (by decide) (fun h_ => absurd (rfl) h_) (fun _ => ?_)
      refine x_aload_n dJ21_init_3_55 0 rfl rfl ?_
      refine x_null dJ21_init_3_56 ?_
      refine x_put (fs' := [.null, .null, .null, .null, .null, .int 0, .int 0, .int 0]) dJ21_init_3_57 vC_3 in_X3 tyX3_ok nmX3 hc51 2 (by decide) q872 rfl rfl (rfl) (rfl) (Nat.le_of_ble_eq_true rfl) rfl (fun σ52 hc54 hu53 => ?_)
      have hK := hK.put hu53 rfl
      exact x_vret dJ21_init_3_60 rfl (⟨rfl, hc54, hK⟩)
    · refine x_put (fs' := [.ref a, .ref b10, .ref b4, .null, .null, .int 0, .int 0, .int 0]) dJ21_init_3_20 vC_3 in_X3 tyX3_ok nmX3 hc39 2 (by decide) q872 rfl rfl (rfl) (rfl) (Nat.le_of_ble_eq_true rfl) rfl (fun σ55 hc57 hu56 => ?_)
      have hK := hK.put hu56 rfl
      refine x_iload dJ21_init_3_23 4 rfl ?_
      refine x_if_eq (tgt := 36) dJ21_init_3_25 (by decide) (fun _ => ?_) (fun h_ => absurd (rfl) h_)
      refine x_aload_n dJ21_init_3_36 0 rfl rfl ?_
      refine x_null dJ21_init_3_37 ?_
      refine x_put (fs' := [.ref a, .null, .ref b4, .null, .null, .int 0, .int 0, .int 0]) dJ21_init_3_38 vC_3 in_X3 tyX3_ok nmX3 hc57 1 (by decide) q871 rfl rfl (rfl) (rfl) (Nat.le_of_ble_eq_true rfl) rfl (fun σ58 hc60 hu59 => ?_)
      have hK := hK.put hu59 rfl
      refine x_aload_n dJ21_init_3_41 0 rfl rfl ?_
      refine x_aload_nN dJ21_init_3_42 1 rfl rfl ?_
      refine x_put (fs' := [.ref a, .null, .ref b4, .null, .null, .int 0, .int 0, .int 0]) dJ21_init_3_43 vC_3 in_X3 tyX3_ok nmX3 hc60 3 (by decide) q869 rfl rfl (rfl) (rfl) (Nat.le_of_ble_eq_true rfl) rfl (fun σ61 hc63 hu62 => ?_)
      have hK := hK.put hu62 rfl
      refine x_aload_n dJ21_init_3_46 0 rfl rfl ?_
      refine x_aload_nN dJ21_init_3_47 2 rfl rfl ?_
      refine x_put (fs' := [.null, .null, .ref b4, .null, .null, .int 0, .int 0, .int 0]) dJ21_init_3_48 vC_3 in_X3 tyX3_ok nmX3 hc63 0 (by decide) q870 rfl rfl (rfl) (rfl) (Nat.le_of_ble_eq_true rfl) rfl (fun σ64 hc66 hu65 => ?_)
      have hK := hK.put hu65 rfl
      refine x_iload_n dJ21_init_3_51 3 rfl rfl ?_
      refine x_if_ne (tgt := 60) dJ21_init_3_52 (by decide) (fun h_ => absurd (rfl) h_) (fun _ => ?_)
      refine x_aload_n dJ21_init_3_55 0 rfl rfl ?_
      refine x_null dJ21_init_3_56 ?_
      refine x_put (fs' := [.null, .null, .null, .null, .null, .int 0, .int 0, .int 0]) dJ21_init_3_57 vC_3 in_X3 tyX3_ok nmX3 hc66 2 (by decide) q872 rfl rfl (rfl) (rfl) (Nat.le_of_ble_eq_true rfl) rfl (fun σ67 hc69 hu68 => ?_)
      have hK := hK.put hu68 rfl
      exact x_vret dJ21_init_3_60 rfl (⟨rfl, hc69, hK⟩)
set_option maxHeartbeats 4000000 in
set_option maxRecDepth 100000 in
theorem con_J22_init_2R {l : Launch} {G : YG} {σ : AH} {a : Nat} (ha : σ a = some (.inr (3, [.null, .null, .null, .null, .null, .int 0, .int 0, .int 0]))) : Con l yJ22_init_2 cJ22_init_2 5 none G 2 0 0 [.ref a, .null, .null, .int (nI 0), .int (nI 0)] σ (PV fun τ => τ a = some (.inr (3, [.null, .null, .null, .null, .null, .int 0, .int 0, .int 0])) ∧ ∀ r, r ≠ a → τ r = σ r) := by
  refine con_of (by decide) (Nat.le_of_ble_eq_true rfl) ?_
  refine x_locs (L' := [(0, .ref a), (1, .null), (2, .null), (3, .int (nI 0)), (4, .int (nI 0))]) [0, 1, 2, 3, 4] rfl ?_
  refine x_aload_n dJ22_init_2_0 0 rfl rfl ?_
  refine x_aload_nN dJ22_init_2_1 1 rfl rfl ?_
  refine x_aload_nN dJ22_init_2_2 2 rfl rfl ?_
  refine x_iload_n dJ22_init_2_3 3 rfl rfl ?_
  refine x_iload dJ22_init_2_4 4 rfl ?_
  refine x_callI dJ22_init_2_6 (con_J21_init_3R ha) (lw_meth q978) q112 q976 q977 rfl (np := 4) (by decide +kernel) rfl ⟨Nat.le_of_ble_eq_true rfl, Nat.le_of_ble_eq_true rfl⟩ (Nat.le_of_ble_eq_true rfl) rfl (by decide) (by decide) (rV fun σ1 h1 => ?_) nV'
  exact x_vret dJ22_init_2_9 rfl (⟨rfl, h1⟩)
set_option maxHeartbeats 4000000 in
set_option maxRecDepth 100000 in
theorem con_J21_init_3W {l : Launch} {G : YG} {σ : AH} {a : Nat} (ha : σ a = some (.inr (8, [.null, .null, .null, .null, .null, .int 0, .int 0]))) : Con l yJ21_init_3 cJ21_init_3 5 none G 1 0 0 [.ref a, .null, .null, .int (nI 0), .int (nI 0)] σ (PV fun τ => τ a = some (.inr (8, [.null, .null, .null, .null, .null, .int 0, .int 0])) ∧ ∀ r, r ≠ a → τ r = σ r) := by
  refine con_of (by decide) (Nat.le_of_ble_eq_true rfl) ?_
  refine x_locs (L' := [(0, .ref a), (1, .null), (2, .null), (3, .int (nI 0)), (4, .int (nI 0))]) [0, 1, 2, 3, 4] rfl ?_
  have hK : Kp (fun r => r = a) σ σ := Kp.rf
  refine x_aload_n dJ21_init_3_0 0 rfl rfl ?_
  refine x_objInit dJ21_init_3_1 q642 q135 q136 ⟨by first | exact Nat.le_of_ble_eq_true rfl | (unfold yroom; simp only; omega), by first | exact Nat.le_of_ble_eq_true rfl | (unfold yroom; simp only; omega)⟩ rfl ?_
  refine x_aload_n dJ21_init_3_4 0 rfl rfl ?_
  refine x_aload_n dJ21_init_3_5 0 rfl rfl ?_
  refine x_put (fs' := [.ref a, .null, .null, .null, .null, .int 0, .int 0]) dJ21_init_3_6 vC_8 in_X8 tyX8_ok nmX8 ha 0 (by decide) q870 rfl rfl (rfl) (rfl) (Nat.le_of_ble_eq_true rfl) rfl (fun σ1 hc3 hu2 => ?_)
  have hK := hK.put hu2 rfl
  refine x_aload_n dJ21_init_3_9 0 rfl rfl ?_
  refine x_gets (i := 6) (v := gv G 1) dJ21_init_3_10 q643 rfl ?_
  refine x_gv (fun _ => ?_) (fun b10 _ => ?_)
  · refine x_put (fs' := [.ref a, .null, .null, .null, .null, .int 0, .int 0]) dJ21_init_3_13 vC_8 in_X8 tyX8_ok nmX8 hc3 1 (by decide) q871 rfl rfl (rfl) (rfl) (Nat.le_of_ble_eq_true rfl) rfl (fun σ4 hc6 hu5 => ?_)
    have hK := hK.put hu5 rfl
    refine x_aload_n dJ21_init_3_16 0 rfl rfl ?_
    refine x_gets (i := 7) (v := gv G 2) dJ21_init_3_17 q645 rfl ?_
    refine x_gv (fun _ => ?_) (fun b4 _ => ?_)
    · refine x_put (fs' := [.ref a, .null, .null, .null, .null, .int 0, .int 0]) dJ21_init_3_20 vC_8 in_X8 tyX8_ok nmX8 hc6 2 (by decide) q872 rfl rfl (rfl) (rfl) (Nat.le_of_ble_eq_true rfl) rfl (fun σ7 hc9 hu8 => ?_)
      have hK := hK.put hu8 rfl
      refine x_iload dJ21_init_3_23 4 rfl ?_
      refine x_if_eq (tgt := 36) dJ21_init_3_25 (by decide) (fun _ => ?_) (fun h_ => absurd (rfl) h_)
      refine x_aload_n dJ21_init_3_36 0 rfl rfl ?_
      refine x_null dJ21_init_3_37 ?_
      refine x_put (fs' := [.ref a, .null, .null, .null, .null, .int 0, .int 0]) dJ21_init_3_38 vC_8 in_X8 tyX8_ok nmX8 hc9 1 (by decide) q871 rfl rfl (rfl) (rfl) (Nat.le_of_ble_eq_true rfl) rfl (fun σ10 hc12 hu11 => ?_)
      have hK := hK.put hu11 rfl
      refine x_aload_n dJ21_init_3_41 0 rfl rfl ?_
      refine x_aload_nN dJ21_init_3_42 1 rfl rfl ?_
      refine x_put (fs' := [.ref a, .null, .null, .null, .null, .int 0, .int 0]) dJ21_init_3_43 vC_8 in_X8 tyX8_ok nmX8 hc12 3 (by decide) q869 rfl rfl (rfl) (rfl) (Nat.le_of_ble_eq_true rfl) rfl (fun σ13 hc15 hu14 => ?_)
      have hK := hK.put hu14 rfl
      refine x_aload_n dJ21_init_3_46 0 rfl rfl ?_
      refine x_aload_nN dJ21_init_3_47 2 rfl rfl ?_
      refine x_put (fs' := [.null, .null, .null, .null, .null, .int 0, .int 0]) dJ21_init_3_48 vC_8 in_X8 tyX8_ok nmX8 hc15 0 (by decide) q870 rfl rfl (rfl) (rfl) (Nat.le_of_ble_eq_true rfl) rfl (fun σ16 hc18 hu17 => ?_)
      have hK := hK.put hu17 rfl
      refine x_iload_n dJ21_init_3_51 3 rfl rfl ?_
      refine x_if_ne (tgt := 60) dJ21_init_3_52 (by decide) (fun h_ => absurd (rfl) h_) (fun _ => ?_)
      refine x_aload_n dJ21_init_3_55 0 rfl rfl ?_
      refine x_null dJ21_init_3_56 ?_
      refine x_put (fs' := [.null, .null, .null, .null, .null, .int 0, .int 0]) dJ21_init_3_57 vC_8 in_X8 tyX8_ok nmX8 hc18 2 (by decide) q872 rfl rfl (rfl) (rfl) (Nat.le_of_ble_eq_true rfl) rfl (fun σ19 hc21 hu20 => ?_)
      have hK := hK.put hu20 rfl
      exact x_vret dJ21_init_3_60 rfl (⟨rfl, hc21, hK⟩)
    · refine x_put (fs' := [.ref a, .null, .ref b4, .null, .null, .int 0, .int 0]) dJ21_init_3_20 vC_8 in_X8 tyX8_ok nmX8 hc6 2 (by decide) q872 rfl rfl (rfl) (rfl) (Nat.le_of_ble_eq_true rfl) rfl (fun σ22 hc24 hu23 => ?_)
      have hK := hK.put hu23 rfl
      refine x_iload dJ21_init_3_23 4 rfl ?_
      refine x_if_eq (tgt := 36) dJ21_init_3_25 (by decide) (fun _ => ?_) (fun h_ => absurd (rfl) h_)
      refine x_aload_n dJ21_init_3_36 0 rfl rfl ?_
      refine x_null dJ21_init_3_37 ?_
      refine x_put (fs' := [.ref a, .null, .ref b4, .null, .null, .int 0, .int 0]) dJ21_init_3_38 vC_8 in_X8 tyX8_ok nmX8 hc24 1 (by decide) q871 rfl rfl (rfl) (rfl) (Nat.le_of_ble_eq_true rfl) rfl (fun σ25 hc27 hu26 => ?_)
      have hK := hK.put hu26 rfl
      refine x_aload_n dJ21_init_3_41 0 rfl rfl ?_
      refine x_aload_nN dJ21_init_3_42 1 rfl rfl ?_
      refine x_put (fs' := [.ref a, .null, .ref b4, .null, .null, .int 0, .int 0]) dJ21_init_3_43 vC_8 in_X8 tyX8_ok nmX8 hc27 3 (by decide) q869 rfl rfl (rfl) (rfl) (Nat.le_of_ble_eq_true rfl) rfl (fun σ28 hc30 hu29 => ?_)
      have hK := hK.put hu29 rfl
      refine x_aload_n dJ21_init_3_46 0 rfl rfl ?_
      refine x_aload_nN dJ21_init_3_47 2 rfl rfl ?_
      refine x_put (fs' := [.null, .null, .ref b4, .null, .null, .int 0, .int 0]) dJ21_init_3_48 vC_8 in_X8 tyX8_ok nmX8 hc30 0 (by decide) q870 rfl rfl (rfl) (rfl) (Nat.le_of_ble_eq_true rfl) rfl (fun σ31 hc33 hu32 => ?_)
      have hK := hK.put hu32 rfl
      refine x_iload_n dJ21_init_3_51 3 rfl rfl ?_
      refine x_if_ne (tgt := 60) dJ21_init_3_52 (by decide) (fun h_ => absurd (rfl) h_) (fun _ => ?_)
      refine x_aload_n dJ21_init_3_55 0 rfl rfl ?_
      refine x_null dJ21_init_3_56 ?_
      refine x_put (fs' := [.null, .null, .null, .null, .null, .int 0, .int 0]) dJ21_init_3_57 vC_8 in_X8 tyX8_ok nmX8 hc33 2 (by decide) q872 rfl rfl (rfl) (rfl) (Nat.le_of_ble_eq_true rfl) rfl (fun σ34 hc36 hu35 => ?_)
      have hK := hK.put hu35 rfl
      exact x_vret dJ21_init_3_60 rfl (⟨rfl, hc36, hK⟩)
  · refine x_put (fs' := [.ref a, .ref b10, .null, .null, .null, .int 0, .int 0]) dJ21_init_3_13 vC_8 in_X8 tyX8_ok nmX8 hc3 1 (by decide) q871 rfl rfl (rfl) (rfl) (Nat.le_of_ble_eq_true rfl) rfl (fun σ37 hc39 hu38 => ?_)
    have hK := hK.put hu38 rfl
    refine x_aload_n dJ21_init_3_16 0 rfl rfl ?_
    refine x_gets (i := 7) (v := gv G 2) dJ21_init_3_17 q645 rfl ?_
    refine x_gv (fun _ => ?_) (fun b4 _ => ?_)
    · refine x_put (fs' := [.ref a, .ref b10, .null, .null, .null, .int 0, .int 0]) dJ21_init_3_20 vC_8 in_X8 tyX8_ok nmX8 hc39 2 (by decide) q872 rfl rfl (rfl) (rfl) (Nat.le_of_ble_eq_true rfl) rfl (fun σ40 hc42 hu41 => ?_)
      have hK := hK.put hu41 rfl
      refine x_iload dJ21_init_3_23 4 rfl ?_
      refine x_if_eq (tgt := 36) dJ21_init_3_25 (by decide) (fun _ => ?_) (fun h_ => absurd (rfl) h_)
      refine x_aload_n dJ21_init_3_36 0 rfl rfl ?_
      refine x_null dJ21_init_3_37 ?_
      refine x_put (fs' := [.ref a, .null, .null, .null, .null, .int 0, .int 0]) dJ21_init_3_38 vC_8 in_X8 tyX8_ok nmX8 hc42 1 (by decide) q871 rfl rfl (rfl) (rfl) (Nat.le_of_ble_eq_true rfl) rfl (fun σ43 hc45 hu44 => ?_)
      have hK := hK.put hu44 rfl
      refine x_aload_n dJ21_init_3_41 0 rfl rfl ?_
      refine x_aload_nN dJ21_init_3_42 1 rfl rfl ?_
      refine x_put (fs' := [.ref a, .null, .null, .null, .null, .int 0, .int 0]) dJ21_init_3_43 vC_8 in_X8 tyX8_ok nmX8 hc45 3 (by decide) q869 rfl rfl (rfl) (rfl) (Nat.le_of_ble_eq_true rfl) rfl (fun σ46 hc48 hu47 => ?_)
      have hK := hK.put hu47 rfl
      refine x_aload_n dJ21_init_3_46 0 rfl rfl ?_
      refine x_aload_nN dJ21_init_3_47 2 rfl rfl ?_
      refine x_put (fs' := [.null, .null, .null, .null, .null, .int 0, .int 0]) dJ21_init_3_48 vC_8 in_X8 tyX8_ok nmX8 hc48 0 (by decide) q870 rfl rfl (rfl) (rfl) (Nat.le_of_ble_eq_true rfl) rfl (fun σ49 hc51 hu50 => ?_)
      have hK := hK.put hu50 rfl
      refine x_iload_n dJ21_init_3_51 3 rfl rfl ?_
      refine x_if_ne (tgt := 60) dJ21_init_3_52 (by decide) (fun h_ => absurd (rfl) h_) (fun _ => ?_)
      refine x_aload_n dJ21_init_3_55 0 rfl rfl ?_
      refine x_null dJ21_init_3_56 ?_
      refine x_put (fs' := [.null, .null, .null, .null, .null, .int 0, .int 0]) dJ21_init_3_57 vC_8 in_X8 tyX8_ok nmX8 hc51 2 (by decide) q872 rfl rfl (rfl) (rfl) (Nat.le_of_ble_eq_true rfl) rfl (fun σ52 hc54 hu53 => ?_)
      have hK := hK.put hu53 rfl
      exact x_vret dJ21_init_3_60 rfl (⟨rfl, hc54, hK⟩)
    · refine x_put (fs' := [.ref a, .ref b10, .ref b4, .null, .null, .int 0, .int 0]) dJ21_init_3_20 vC_8 in_X8 tyX8_ok nmX8 hc39 2 (by decide) q872 rfl rfl (rfl) (rfl) (Nat.le_of_ble_eq_true rfl) rfl (fun σ55 hc57 hu56 => ?_)
      have hK := hK.put hu56 rfl
      refine x_iload dJ21_init_3_23 4 rfl ?_
      refine x_if_eq (tgt := 36) dJ21_init_3_25 (by decide) (fun _ => ?_) (fun h_ => absurd (rfl) h_)
      refine x_aload_n dJ21_init_3_36 0 rfl rfl ?_
      refine x_null dJ21_init_3_37 ?_
      refine x_put (fs' := [.ref a, .null, .ref b4, .null, .null, .int 0, .int 0]) dJ21_init_3_38 vC_8 in_X8 tyX8_ok nmX8 hc57 1 (by decide) q871 rfl rfl (rfl) (rfl) (Nat.le_of_ble_eq_true rfl) rfl (fun σ58 hc60 hu59 => ?_)
      have hK := hK.put hu59 rfl
      refine x_aload_n dJ21_init_3_41 0 rfl rfl ?_
      refine x_aload_nN dJ21_init_3_42 1 rfl rfl ?_
      refine x_put (fs' := [.ref a, .null, .ref b4, .null, .null, .int 0, .int 0]) dJ21_init_3_43 vC_8 in_X8 tyX8_ok nmX8 hc60 3 (by decide) q869 rfl rfl (rfl) (rfl) (Nat.le_of_ble_eq_true rfl) rfl (fun σ61 hc63 hu62 => ?_)
      have hK := hK.put hu62 rfl
      refine x_aload_n dJ21_init_3_46 0 rfl rfl ?_
      refine x_aload_nN dJ21_init_3_47 2 rfl rfl ?_
      refine x_put (fs' := [.null, .null, .ref b4, .null, .null, .int 0, .int 0]) dJ21_init_3_48 vC_8 in_X8 tyX8_ok nmX8 hc63 0 (by decide) q870 rfl rfl (rfl) (rfl) (Nat.le_of_ble_eq_true rfl) rfl (fun σ64 hc66 hu65 => ?_)
      have hK := hK.put hu65 rfl
      refine x_iload_n dJ21_init_3_51 3 rfl rfl ?_
      refine x_if_ne (tgt := 60) dJ21_init_3_52 (by decide) (fun h_ => absurd (rfl) h_) (fun _ => ?_)
      refine x_aload_n dJ21_init_3_55 0 rfl rfl ?_
      refine x_null dJ21_init_3_56 ?_
      refine x_put (fs' := [.null, .null, .null, .null, .null, .int 0, .int 0]) dJ21_init_3_57 vC_8 in_X8 tyX8_ok nmX8 hc66 2 (by decide) q872 rfl rfl (rfl) (rfl) (Nat.le_of_ble_eq_true rfl) rfl (fun σ67 hc69 hu68 => ?_)
      have hK := hK.put hu68 rfl
      exact x_vret dJ21_init_3_60 rfl (⟨rfl, hc69, hK⟩)
set_option maxHeartbeats 4000000 in
set_option maxRecDepth 100000 in
theorem con_J22_init_2W {l : Launch} {G : YG} {σ : AH} {a : Nat} (ha : σ a = some (.inr (8, [.null, .null, .null, .null, .null, .int 0, .int 0]))) : Con l yJ22_init_2 cJ22_init_2 5 none G 2 0 0 [.ref a, .null, .null, .int (nI 0), .int (nI 0)] σ (PV fun τ => τ a = some (.inr (8, [.null, .null, .null, .null, .null, .int 0, .int 0])) ∧ ∀ r, r ≠ a → τ r = σ r) := by
  refine con_of (by decide) (Nat.le_of_ble_eq_true rfl) ?_
  refine x_locs (L' := [(0, .ref a), (1, .null), (2, .null), (3, .int (nI 0)), (4, .int (nI 0))]) [0, 1, 2, 3, 4] rfl ?_
  refine x_aload_n dJ22_init_2_0 0 rfl rfl ?_
  refine x_aload_nN dJ22_init_2_1 1 rfl rfl ?_
  refine x_aload_nN dJ22_init_2_2 2 rfl rfl ?_
  refine x_iload_n dJ22_init_2_3 3 rfl rfl ?_
  refine x_iload dJ22_init_2_4 4 rfl ?_
  refine x_callI dJ22_init_2_6 (con_J21_init_3W ha) (lw_meth q978) q112 q976 q977 rfl (np := 4) (by decide +kernel) rfl ⟨Nat.le_of_ble_eq_true rfl, Nat.le_of_ble_eq_true rfl⟩ (Nat.le_of_ble_eq_true rfl) rfl (by decide) (by decide) (rV fun σ1 h1 => ?_) nV'
  exact x_vret dJ22_init_2_9 rfl (⟨rfl, h1⟩)
set_option maxHeartbeats 4000000 in
set_option maxRecDepth 100000 in
theorem con_X3_init {l : Launch} {G : YG} {σ : AH} {a : Nat} {r d : Int32} (ha : σ a = some (.inr (3, [.null, .null, .null, .null, .null, .int 0, .int 0, .int 0]))) : Con l yX3_init cX3_init 3 none G 3 0 0 [.ref a, .int r, .int d] σ (PV fun τ => τ a = some (.inr (3, [.null, .null, .null, .null, .null, .int 0, .int r, .int d])) ∧ ∀ q, q ≠ a → τ q = σ q) := by
  refine con_of (by decide) (Nat.le_of_ble_eq_true rfl) ?_
  refine x_locs (L' := [(0, .ref a), (1, .int r), (2, .int d)]) [0, 1, 2] rfl ?_
  refine x_aload_n dX3_init_0 0 rfl rfl ?_
  refine x_null dX3_init_1 ?_
  refine x_null dX3_init_2 ?_
  refine x_iconst (v := nI 0) dX3_init_3 (by decide) ?_
  refine x_iconst (v := nI 0) dX3_init_4 (by decide) ?_
  refine x_callI dX3_init_5 (con_J22_init_2R ha) (lw_meth q975) q113 q973 q974 rfl (np := 4) (by decide +kernel) rfl ⟨Nat.le_of_ble_eq_true rfl, Nat.le_of_ble_eq_true rfl⟩ (Nat.le_of_ble_eq_true rfl) rfl (by decide) (by decide) (rV fun σ1 h1 => ?_) nV'
  obtain ⟨ha1, hK⟩ := h1
  refine x_aload_n dX3_init_8 0 rfl rfl ?_
  refine x_iload_n dX3_init_9 1 rfl rfl ?_
  refine x_putF (fs' := [.null, .null, .null, .null, .null, .int 0, .int r, .int 0]) dX3_init_10 vC_3 in_X3 tyX3_ok nmX3 ha1 6 (by decide) q979 rfl rfl rfl rfl (rfl) (rfl) (Nat.le_of_ble_eq_true rfl) rfl (fun σ3 hc5 hu4 => ?_)
  refine x_aload_n dX3_init_13 0 rfl rfl ?_
  refine x_iload_n dX3_init_14 2 rfl rfl ?_
  refine x_putF (fs' := [.null, .null, .null, .null, .null, .int 0, .int r, .int d]) dX3_init_15 vC_3 in_X3 tyX3_ok nmX3 hc5 7 (by decide) q981 rfl rfl rfl rfl (rfl) (rfl) (Nat.le_of_ble_eq_true rfl) rfl (fun σ6 hc8 hu7 => ?_)
  exact x_vret dX3_init_18 rfl (⟨rfl, hc8, fun q hq => (hu7 q hq).trans ((hu4 q hq).trans (hK q hq))⟩)
set_option maxHeartbeats 4000000 in
set_option maxRecDepth 100000 in
theorem con_X8_init {l : Launch} {G : YG} {σ : AH} {a : Nat} {r : Int32} (ha : σ a = some (.inr (8, [.null, .null, .null, .null, .null, .int 0, .int 0]))) : Con l yX8_init cX8_init 2 none G 3 0 0 [.ref a, .int r] σ (PV fun τ => τ a = some (.inr (8, [.null, .null, .null, .null, .null, .int 0, .int r])) ∧ ∀ q, q ≠ a → τ q = σ q) := by
  refine con_of (by decide) (Nat.le_of_ble_eq_true rfl) ?_
  refine x_locs (L' := [(0, .ref a), (1, .int r)]) [0, 1] rfl ?_
  refine x_aload_n dX8_init_0 0 rfl rfl ?_
  refine x_null dX8_init_1 ?_
  refine x_null dX8_init_2 ?_
  refine x_iconst (v := nI 0) dX8_init_3 (by decide) ?_
  refine x_iconst (v := nI 0) dX8_init_4 (by decide) ?_
  refine x_callI dX8_init_5 (con_J22_init_2W ha) (lw_meth q975) q113 q1613 q974 rfl (np := 4) (by decide +kernel) rfl ⟨Nat.le_of_ble_eq_true rfl, Nat.le_of_ble_eq_true rfl⟩ (Nat.le_of_ble_eq_true rfl) rfl (by decide) (by decide) (rV fun σ1 h1 => ?_) nV'
  obtain ⟨ha1, hK⟩ := h1
  refine x_aload_n dX8_init_8 0 rfl rfl ?_
  refine x_iload_n dX8_init_9 1 rfl rfl ?_
  refine x_putF (fs' := [.null, .null, .null, .null, .null, .int 0, .int r]) dX8_init_10 vC_8 in_X8 tyX8_ok nmX8 ha1 6 (by decide) q1614 rfl rfl rfl rfl (rfl) (rfl) (Nat.le_of_ble_eq_true rfl) rfl (fun σ3 hc5 hu4 => ?_)
  exact x_vret dX8_init_13 rfl (⟨rfl, hc5, fun q hq => (hu4 q hq).trans (hK q hq)⟩)
set_option maxHeartbeats 4000000 in
set_option maxRecDepth 100000 in
theorem con_X4_init {l : Launch} {G : YG} {σ : AH} {a : Nat} {x k : Int32} {b : Bool} (ha : σ a = some (.inr (4, [.int 0, .int 0, .int 0]))) : Con l yX4_init cX4_init 4 none G 1 0 0 [.ref a, .int x, .int k, .int (bI b)] σ (PV fun τ => τ a = some (.inr (4, [.int x, .int k, .int (bI b)])) ∧ ∀ q, q ≠ a → τ q = σ q) := by
  refine con_of (by decide) (Nat.le_of_ble_eq_true rfl) ?_
  refine x_locs (L' := [(0, .ref a), (1, .int x), (2, .int k), (3, .int (bI b))]) [0, 1, 2, 3] rfl ?_
  have hK : Kp (fun r => r = a) σ σ := Kp.rf
  refine x_aload_n dX4_init_0 0 rfl rfl ?_
  refine x_objInit dX4_init_1 q1076 q135 q136 ⟨by first | exact Nat.le_of_ble_eq_true rfl | (unfold yroom; simp only; omega), by first | exact Nat.le_of_ble_eq_true rfl | (unfold yroom; simp only; omega)⟩ rfl ?_
  refine x_aload_n dX4_init_4 0 rfl rfl ?_
  refine x_iload_n dX4_init_5 1 rfl rfl ?_
  refine x_putF (fs' := [.int x, .int 0, .int 0]) dX4_init_6 vC_4 in_X4 tyX4_ok nmX4 ha 0 (by decide) q1077 rfl rfl rfl rfl (rfl) (rfl) (Nat.le_of_ble_eq_true rfl) rfl (fun σ1 hc3 hu2 => ?_)
  have hK := hK.put hu2 rfl
  refine x_aload_n dX4_init_9 0 rfl rfl ?_
  refine x_iload_n dX4_init_10 2 rfl rfl ?_
  refine x_putF (fs' := [.int x, .int k, .int 0]) dX4_init_11 vC_4 in_X4 tyX4_ok nmX4 hc3 1 (by decide) q1080 rfl rfl rfl rfl (rfl) (rfl) (Nat.le_of_ble_eq_true rfl) rfl (fun σ4 hc6 hu5 => ?_)
  have hK := hK.put hu5 rfl
  refine x_aload_n dX4_init_14 0 rfl rfl ?_
  refine x_iload_n dX4_init_15 3 rfl rfl ?_
  refine x_putF (fs' := [.int x, .int k, .int (bI b)]) dX4_init_16 vC_4 in_X4 tyX4_ok nmX4 hc6 2 (by decide) q1082 rfl rfl rfl rfl (bI_z b) (fits_bI b) (Nat.le_of_ble_eq_true rfl) rfl (fun σ7 hc9 hu8 => ?_)
  have hK := hK.put hu8 rfl
  exact x_vret dX4_init_19 rfl (⟨rfl, hc9, hK⟩)
set_option maxHeartbeats 4000000 in
set_option maxRecDepth 100000 in
theorem con_X6_init {l : Launch} {G : YG} {σ : AH} {a : Nat} {z : Int32} (ha : σ a = some (.inr (6, [.int 0]))) : Con l yX6_init cX6_init 2 none G 1 0 0 [.ref a, .int z] σ (PV fun τ => τ a = some (.inr (6, [.int z])) ∧ ∀ q, q ≠ a → τ q = σ q) := by
  refine con_of (by decide) (Nat.le_of_ble_eq_true rfl) ?_
  refine x_locs (L' := [(0, .ref a), (1, .int z)]) [0, 1] rfl ?_
  refine x_aload_n dX6_init_0 0 rfl rfl ?_
  refine x_objInit dX6_init_1 q1162 q135 q136 ⟨by first | exact Nat.le_of_ble_eq_true rfl | (unfold yroom; simp only; omega), by first | exact Nat.le_of_ble_eq_true rfl | (unfold yroom; simp only; omega)⟩ rfl ?_
  refine x_aload_n dX6_init_4 0 rfl rfl ?_
  refine x_iload_n dX6_init_5 1 rfl rfl ?_
  refine x_put (fs' := [.int z]) dX6_init_6 vC_6 in_X6 tyX6_ok nmX6 ha 0 (by decide) q1163 rfl rfl (rfl) (rfl) (Nat.le_of_ble_eq_true rfl) rfl (fun σ1 hc3 hu2 => ?_)
  exact x_vret dX6_init_9 rfl (⟨rfl, hc3, hu2⟩)
set_option maxHeartbeats 4000000 in
set_option maxRecDepth 100000 in
theorem con_X6_hasNext {l : Launch} {G : YG} {σ : AH} {a : Nat} {z : Int32} (ha : σ a = some (.inr (6, [.int z]))) : Con l yX6_hasNext cX6_hasNext 1 (some FieldType.boolean) G 0 0 0 [.ref a] σ (PS σ (bI (decide (z ≠ 0)))) := by
  refine con_of (by decide) (Nat.le_of_ble_eq_true rfl) ?_
  refine x_locs (L' := [(0, .ref a)]) [0] rfl ?_
  refine x_aload_n dX6_hasNext_0 0 rfl rfl ?_
  refine x_get dX6_hasNext_1 vC_6 in_X6 ha 0 (by decide) q1163 rfl ?_
  refine x_if_eq (tgt := 11) dX6_hasNext_4 (by decide) (fun c1 => ?_) (fun c1 => ?_)
  · refine x_iconst (v := nI 0) dX6_hasNext_11 (by decide) ?_
    exact x_zret dX6_hasNext_12 rfl (rfl) (pS' (by rw [decide_eq_false (by rw [c1]; exact fun h => h rfl)]; rfl))
  · refine x_iconst (v := nI 1) dX6_hasNext_7 (by decide) ?_
    refine x_goto (tgt := 12) dX6_hasNext_8 (by decide) ?_
    exact x_zret dX6_hasNext_12 rfl (rfl) (pS' (by rw [decide_eq_true c1]; rfl))
set_option maxHeartbeats 4000000 in
set_option maxRecDepth 100000 in
theorem con_X5_init {l : Launch} {G : YG} {σ : AH} {a c : Nat} {z : Int32} (ha : σ a = some (.inr (5, [.int 0, .null]))) : Con l yX5_init cX5_init 3 none G 1 0 0 [.ref a, .ref c, .int z] σ (PV fun τ => τ a = some (.inr (5, [.int z, .ref c])) ∧ ∀ q, q ≠ a → τ q = σ q) := by
  refine con_of (by decide) (Nat.le_of_ble_eq_true rfl) ?_
  refine x_locs (L' := [(0, .ref a), (1, .ref c), (2, .int z)]) [0, 1, 2] rfl ?_
  have hK : Kp (fun r => r = a) σ σ := Kp.rf
  refine x_aload_n dX5_init_0 0 rfl rfl ?_
  refine x_aload_n dX5_init_1 1 rfl rfl ?_
  refine x_putF (fs' := [.int 0, .ref c]) dX5_init_2 vC_5 in_X5 tyX5_ok nmX5 ha 1 (by decide) q1141 rfl rfl rfl rfl (rfl) (rfl) (Nat.le_of_ble_eq_true rfl) rfl (fun σ1 hc3 hu2 => ?_)
  have hK := hK.put hu2 rfl
  refine x_aload_n dX5_init_5 0 rfl rfl ?_
  refine x_iload_n dX5_init_6 2 rfl rfl ?_
  refine x_putF (fs' := [.int z, .ref c]) dX5_init_7 vC_5 in_X5 tyX5_ok nmX5 hc3 0 (by decide) q1140 rfl rfl rfl rfl (rfl) (rfl) (Nat.le_of_ble_eq_true rfl) rfl (fun σ4 hc6 hu5 => ?_)
  have hK := hK.put hu5 rfl
  refine x_aload_n dX5_init_10 0 rfl rfl ?_
  refine x_objInit dX5_init_11 q1139 q135 q136 ⟨by first | exact Nat.le_of_ble_eq_true rfl | (unfold yroom; simp only; omega), by first | exact Nat.le_of_ble_eq_true rfl | (unfold yroom; simp only; omega)⟩ rfl ?_
  exact x_vret dX5_init_14 rfl (⟨rfl, hc6, hK⟩)
set_option maxHeartbeats 4000000 in
set_option maxRecDepth 100000 in
theorem con_X5_iterator {l : Launch} {G : YG} {σ : AH} {a c : Nat} {z : Int32} (ha : σ a = some (.inr (5, [.int z, .ref c]))) : Con l yX5_iterator cX5_iterator 1 (some (FieldType.object "java/util/Iterator")) G 2 1 1 [.ref a] σ (PA fun i τ => σ i = none ∧ τ i = some (.inr (6, [.int z])) ∧ ∀ q, q ≠ i → τ q = σ q) := by
  refine con_of (by decide) (Nat.le_of_ble_eq_true rfl) ?_
  refine x_locs (L' := [(0, .ref a)]) [0] rfl ?_
  refine x_new (fs := [.int 0]) dX5_iterator_0 vC_6 in_X6 tyX6_ok q1157 q1158 q121 rfl (by omega) (by omega) (fun i σ1 hn2 hb3 hc4 hu5 => ?_)
  have ha := ro_new hn2 hu5 _ _ ha
  refine x_dup dX5_iterator_3 rfl ?_
  refine x_aload_n dX5_iterator_4 0 rfl rfl ?_
  refine x_get dX5_iterator_5 vC_5 in_X5 ha 0 (by decide) q1140 rfl ?_
  refine x_callI dX5_iterator_8 (con_X6_init hc4) (lw_meth q1161) q121 q1159 q1160 rfl (np := 1) (by decide +kernel) rfl ⟨Nat.le_of_ble_eq_true rfl, Nat.le_of_ble_eq_true rfl⟩ (Nat.le_of_ble_eq_true rfl) rfl (Nat.zero_le _) (Nat.zero_le _) (rV fun σ6 h1 => ?_) nV'
  exact x_aret dX5_iterator_11 rfl (by first | exact Or.inl ⟨_, rfl⟩ | exact Or.inr ⟨_, rfl⟩) (Or.inr ⟨_, rfl⟩) (⟨_, rfl, hn2, h1.1, fun q hq => (h1.2 q hq).trans (hu5 q hq)⟩)
