set_option maxRecDepth 100000
set_option maxHeartbeats 4000000 in
set_option maxRecDepth 100000 in
theorem con_J7_checkLength {l : Launch} {G : YG} {σ : AH} {n : Nat} (hn : n < 2 ^ 31) : Con l yJ7_checkLength cJ7_checkLength 2 none G 0 0 0 [.int (nI 0), .int (nI n)] σ (PV fun τ => τ = σ) := by
  refine con_of (by decide) (Nat.le_of_ble_eq_true rfl) ?_
  refine x_locs (L' := [(0, .int (nI 0)), (1, .int (nI n))]) [0, 1] rfl ?_
  refine x_iload_n dJ7_checkLength_0 1 rfl rfl ?_
  refine x_iload_n dJ7_checkLength_1 0 rfl rfl ?_
  refine x_icmp_ge (tgt := 37) dJ7_checkLength_2 (by decide) (fun _ => ?_) (fun h_ => absurd ((nI_leI (by decide) hn).mpr (Nat.zero_le _)) h_)
  exact x_vret dJ7_checkLength_37 rfl (⟨rfl, rfl⟩)
set_option maxHeartbeats 4000000 in
set_option maxRecDepth 100000 in
theorem con_J7_copyOfRangeByte {l : Launch} {G : YG} {σ : AH} {b n N : Nat} {f : Nat → Int32} (hb : σ b = some (.inl (3, N, .inl f))) (hby : ∀ j, j < N → fits .byte (.int (f j)) = true) (hnN : n ≤ N) (hN : N < 1000) : Con l yJ7_copyOfRangeByte cJ7_copyOfRangeByte 5 (some (FieldType.array FieldType.byte)) G 1 1 n [.ref b, .int (nI 0), .int (nI n)] σ (PA fun z τ => σ z = none ∧ (∃ g, τ z = some (.inl (3, n, .inl g)) ∧ ∀ j, j < n → g j = f j) ∧ RO σ τ) := by
  refine con_of (by decide) (Nat.le_of_ble_eq_true rfl) ?_
  refine x_locs (L' := [(0, .ref b), (1, .int (nI 0)), (2, .int (nI n))]) [0, 1, 2] rfl ?_
  refine x_iload_n dJ7_copyOfRangeByte_0 1 rfl rfl ?_
  refine x_iload_n dJ7_copyOfRangeByte_1 2 rfl rfl ?_
  refine x_callS dJ7_copyOfRangeByte_2 (con_J7_checkLength (n := n) (by omega)) (lw_S q841 q842 q94 q843) (np := 2) (by decide +kernel) rfl ⟨Nat.le_of_ble_eq_true rfl, Nat.le_of_ble_eq_true rfl⟩ (Nat.le_of_ble_eq_true rfl) rfl (Nat.zero_le _) (Nat.zero_le _) (rV fun σ1 h1 => ?_) nV'
  subst h1
  refine x_iload_n dJ7_copyOfRangeByte_5 2 rfl rfl ?_
  refine x_iload_n dJ7_copyOfRangeByte_6 1 rfl rfl ?_
  refine x_isub dJ7_copyOfRangeByte_7 ?_
  refine x_top (x' := nI n) (nI_sub (Nat.zero_le _)) ?_
  refine x_istore_n (i := 3) (L' := [(3, .int (nI n)), (0, .ref b), (1, .int (nI 0)), (2, .int (nI n))]) dJ7_copyOfRangeByte_8 rfl (by decide) rfl ?_
  refine x_iload_n dJ7_copyOfRangeByte_9 0 rfl rfl ?_
  refine x_newb (N := n) dJ7_copyOfRangeByte_10 q366 rfl (by first | omega | decide) (Nat.le_refl _) (Nat.le_refl _) (fun z σ3 hn4 hb5 hc6 hu7 => ?_)
  have hb := ro_new hn4 hu7 _ _ hb
  refine x_astore (i := 4) (L' := [(4, .ref z), (3, .int (nI n)), (0, .ref b), (1, .int (nI 0)), (2, .int (nI n))]) dJ7_copyOfRangeByte_12 (by decide) rfl ?_
  refine x_aload_n dJ7_copyOfRangeByte_14 2 rfl rfl ?_
  refine x_iload_n dJ7_copyOfRangeByte_15 3 rfl rfl ?_
  refine x_aload dJ7_copyOfRangeByte_16 0 rfl ?_
  refine x_iconst (v := nI 0) dJ7_copyOfRangeByte_18 (by decide) ?_
  refine x_aload_n dJ7_copyOfRangeByte_19 2 rfl rfl ?_
  refine x_alen (N := 0) (q0 := 3) (v := nI N) dJ7_copyOfRangeByte_20 hb rfl rfl ?_
  refine x_iload_n dJ7_copyOfRangeByte_21 3 rfl rfl ?_
  refine x_isub dJ7_copyOfRangeByte_22 ?_
  refine x_top (x' := nI N) (nI_sub (Nat.zero_le _)) ?_
  refine x_iload_n dJ7_copyOfRangeByte_23 1 rfl rfl ?_
  refine x_callS dJ7_copyOfRangeByte_24 (con_J6_min (x := N) (y := n) (by omega) (by omega)) (lw_S q270 q271 q93 q272) (np := 2) (by decide +kernel) rfl ⟨Nat.le_of_ble_eq_true rfl, Nat.le_of_ble_eq_true rfl⟩ (Nat.le_of_ble_eq_true rfl) rfl (Nat.zero_le _) (Nat.zero_le _) (rS ?_) nI'
  refine x_top (x' := nI n) (congrArg nI (nminR hnN)) ?_
  refine x_copyB (sp := 0) (dp := 0) (m := n) dJ7_copyOfRangeByte_27 q273 hb hc6 (by omega) (by omega) (by omega) (by omega) (fun i hi => by rw [Nat.zero_add]; exact hby i (by omega)) ⟨Nat.le_of_ble_eq_true rfl, Nat.le_of_ble_eq_true rfl⟩ (Nat.le_of_ble_eq_true rfl) (fun σ8 g8 f8 => ?_)
  refine x_aload dJ7_copyOfRangeByte_30 0 rfl ?_
  exact x_aret dJ7_copyOfRangeByte_32 rfl (by first | exact Or.inl ⟨_, rfl⟩ | exact Or.inr ⟨_, rfl⟩) (Or.inr ⟨_, rfl⟩) (⟨_, rfl, hn4, ⟨_, g8, fun j hj => by rw [pk_cpy_in (by omega) (by omega), show 0 + (j - 0) = j by omega]⟩, ro_new hn4 (fun q hq => (f8 q hq).trans (hu7 q hq))⟩)
set_option maxHeartbeats 4000000 in
set_option maxRecDepth 100000 in
theorem con_J7_copyOfRange {l : Launch} {G : YG} {σ : AH} {b n N : Nat} {f : Nat → Int32} (hb : σ b = some (.inl (3, N, .inl f))) (hby : ∀ j, j < N → fits .byte (.int (f j)) = true) (hnN : n ≤ N) (hN : N < 1000) : Con l yJ7_copyOfRange cJ7_copyOfRange 3 (some (FieldType.array FieldType.byte)) G 2 1 n [.ref b, .int (nI 0), .int (nI n)] σ (PA fun z τ => σ z = none ∧ (∃ g, τ z = some (.inl (3, n, .inl g)) ∧ ∀ j, j < n → g j = f j) ∧ RO σ τ) := by
  refine con_of (by decide) (Nat.le_of_ble_eq_true rfl) ?_
  refine x_locs (L' := [(0, .ref b), (1, .int (nI 0)), (2, .int (nI n))]) [0, 1, 2] rfl ?_
  refine x_iload_n dJ7_copyOfRange_0 1 rfl rfl ?_
  refine x_if_ne (tgt := 10) dJ7_copyOfRange_1 (by decide) (fun h_ => absurd (rfl) h_) (fun _ => ?_)
  refine x_iload_n dJ7_copyOfRange_4 2 rfl rfl ?_
  refine x_aload_n dJ7_copyOfRange_5 0 rfl rfl ?_
  refine x_alen (N := 0) (q0 := 3) (v := nI N) dJ7_copyOfRange_6 hb rfl rfl ?_
  refine x_icmp_eq (tgt := 17) dJ7_copyOfRange_7 (by decide) (fun c1 => ?_) (fun c1 => ?_)
  · have c1 : n = N := nEq (by omega) (by omega) c1
    refine x_aload_n dJ7_copyOfRange_17 0 rfl rfl ?_
    refine x_cloneB dJ7_copyOfRange_18 q726 hb hby ⟨Nat.le_of_ble_eq_true rfl, Nat.le_of_ble_eq_true rfl⟩ (Nat.le_of_ble_eq_true rfl) (Nat.le_refl _) (by omega) (fun z τ hn hb2 hc hu => ?_)
    refine x_castB dJ7_copyOfRange_21 q732 hc ?_
    exact x_aret dJ7_copyOfRange_24 rfl (by first | exact Or.inl ⟨_, rfl⟩ | exact Or.inr ⟨_, rfl⟩) (Or.inr ⟨_, rfl⟩) (⟨_, rfl, hn, ⟨f, by rw [c1]; exact hc, fun _ _ => rfl⟩, ro_new hn hu⟩)
  · refine x_aload_n dJ7_copyOfRange_10 0 rfl rfl ?_
    refine x_iload_n dJ7_copyOfRange_11 1 rfl rfl ?_
    refine x_iload_n dJ7_copyOfRange_12 2 rfl rfl ?_
    refine x_callS dJ7_copyOfRange_13 (con_J7_copyOfRangeByte hb hby hnN hN) (lw_S q838 q839 q94 q840) (np := 3) (by decide +kernel) rfl ⟨Nat.le_of_ble_eq_true rfl, Nat.le_of_ble_eq_true rfl⟩ (Nat.le_of_ble_eq_true rfl) rfl (Nat.le_refl _) (Nat.le_refl _) (rA fun z σ1 h1 => ?_) nA'
    exact x_aret dJ7_copyOfRange_16 rfl (by first | exact Or.inl ⟨_, rfl⟩ | exact Or.inr ⟨_, rfl⟩) (Or.inr ⟨_, rfl⟩) (⟨_, rfl, h1⟩)
set_option maxHeartbeats 4000000 in
set_option maxRecDepth 100000 in
theorem con_J11_init_2 {l : Launch} {G : YG} {σ : AH} {q p b N : Nat} {t : List Nat} (hS : SB σ p b N t) (hq : σ q = some (.inr (17, [.null, .int 0, .int 0, .int 0]))) : Con l yJ11_init_2 cJ11_init_2 5 none G 3 1 302 [.ref q, .ref p, .null] σ (PV fun τ => StrAt G τ q t ∧ (∃ v, τ q = some (.inr (17, [.ref v, .int 0, .int 0, .int 0])) ∧ σ v = none) ∧ ∀ r, σ r ≠ none → r ≠ q → τ r = σ r) := by
  refine con_of (by decide) (Nat.le_of_ble_eq_true rfl) ?_
  refine x_locs (L' := [(0, .ref q), (1, .ref p), (2, .null)]) [0, 1, 2] rfl ?_
  have hpb := hS.ne
  obtain ⟨⟨ml, hp⟩, ⟨f, hbc, hf, hby⟩, hch, htN, hN⟩ := id hS
  refine x_aload_n dJ11_init_2_0 0 rfl rfl ?_
  refine x_objInit dJ11_init_2_1 q820 q135 q136 ⟨by first | exact Nat.le_of_ble_eq_true rfl | (unfold yroom; simp only; omega), by first | exact Nat.le_of_ble_eq_true rfl | (unfold yroom; simp only; omega)⟩ rfl ?_
  refine x_aload_n dJ11_init_2_4 1 rfl rfl ?_
  refine x_callU dJ11_init_2_5 (con_J9_getValue hS) (lw_U q821 q823 q824 q822 q97 q825) rfl (np := 0) (by decide +kernel) rfl hS.rc ⟨Nat.le_of_ble_eq_true rfl, Nat.le_of_ble_eq_true rfl⟩ (Nat.le_of_ble_eq_true rfl) rfl (Nat.zero_le _) (Nat.zero_le _) (rA fun z σ1 h1 => ?_) nA'
  obtain ⟨rfl, rfl⟩ := h1
  refine x_astore_n (i := 3) (L' := [(3, .ref z), (0, .ref q), (1, .ref p), (2, .null)]) dJ11_init_2_8 rfl (by decide) rfl ?_
  refine x_aload_n dJ11_init_2_9 2 rfl rfl ?_
  refine x_callO dJ11_init_2_10 (con_J10_length hS) (lw_O q826 q828 q827 q829 q830 q98 q831) q833 (np := 0) (by decide +kernel) rfl hS.rc ⟨Nat.le_of_ble_eq_true rfl, Nat.le_of_ble_eq_true rfl⟩ (Nat.le_of_ble_eq_true rfl) rfl (Nat.zero_le _) (Nat.zero_le _) (rS ?_) nI'
  refine x_istore (i := 4) (L' := [(4, .int (nI t.length)), (3, .ref z), (0, .ref q), (1, .ref p), (2, .null)]) dJ11_init_2_13 (by decide) rfl ?_
  refine x_aload_n dJ11_init_2_15 3 rfl rfl ?_
  refine x_callU dJ11_init_2_16 (con_J9_isLatin1 hS) (lw_U q834 q735 q736 q734 q97 q737) rfl (np := 0) (by decide +kernel) rfl hS.rc ⟨Nat.le_of_ble_eq_true rfl, Nat.le_of_ble_eq_true rfl⟩ (Nat.le_of_ble_eq_true rfl) rfl (Nat.zero_le _) (Nat.zero_le _) (rS ?_) nI'
  refine x_if_eq (tgt := 41) dJ11_init_2_19 (by decide) (fun h_ => absurd h_ (by decide)) (fun _ => ?_)
  refine x_aload_n dJ11_init_2_22 2 rfl rfl ?_
  refine x_iconst (v := nI 0) dJ11_init_2_23 (by decide) ?_
  refine x_putF (fs' := [.null, .int (nI 0), .int 0, .int 0]) dJ11_init_2_24 vC_17 in_J11 tyJ11_ok nmJ11 hq 1 (by decide) q858 rfl rfl rfl rfl (rfl) (rfl) (Nat.le_of_ble_eq_true rfl) rfl (fun σ4 hc6 hu5 => ?_)
  have hbc := at_put hu5 hbc (cell_ne hq hbc rfl)
  refine x_aload_n dJ11_init_2_27 2 rfl rfl ?_
  refine x_aload_n dJ11_init_2_28 1 rfl rfl ?_
  refine x_iconst (v := nI 0) dJ11_init_2_29 (by decide) ?_
  refine x_iload dJ11_init_2_30 0 rfl ?_
  refine x_callS dJ11_init_2_32 (con_J7_copyOfRange (n := t.length) hbc hby htN (by omega)) (lw_S q835 q836 q94 q837) (np := 3) (by decide +kernel) rfl ⟨Nat.le_of_ble_eq_true rfl, Nat.le_of_ble_eq_true rfl⟩ (Nat.le_of_ble_eq_true rfl) rfl (Nat.le_refl _) (by omega) (rA fun v σ7 h2 => ?_) nA'
  obtain ⟨hvn, ⟨g, hv, hgf⟩, hro⟩ := h2
  have hq2 := hro _ _ hc6
  have hqv : q ≠ v := cell_nn hvn hc6
  have hvn0 : σ1 v = none := by rw [← hu5 v (fun e => hqv e.symm)]; exact hvn
  refine x_putF (fs' := [.ref v, .int 0, .int 0, .int 0]) dJ11_init_2_35 vC_17 in_J11 tyJ11_ok nmJ11 hq2 0 (by decide) q857 rfl rfl rfl rfl (rfl) (rfl) (Nat.le_of_ble_eq_true rfl) rfl (fun σ8 hc10 hu9 => ?_)
  have hv := at_put hu9 hv (cell_ne hq2 hv rfl)
  refine x_goto (tgt := 97) dJ11_init_2_38 (by decide) ?_
  refine x_vret dJ11_init_2_97 rfl ⟨rfl, ⟨⟨by omega, hch⟩, Or.inr ⟨v, 0, 0, g, hc10, hv, fun j x hx => by rw [hgf j (get_lt' hx)]; exact hf j x hx⟩⟩, ⟨v, hc10, hvn0⟩, fun r hr hrq => ?_⟩
  rw [hu9 r hrq]
  cases hs : σ4 r with
  | none => rw [hu5 r hrq] at hs; exact absurd hs hr
  | some e => rw [hro _ _ hs, ← hu5 r hrq, hs]
set_option maxHeartbeats 4000000 in
set_option maxRecDepth 100000 in
theorem con_J11_init {l : Launch} {G : YG} {σ : AH} {q p b N : Nat} {t : List Nat} (hS : SB σ p b N t) (hq : σ q = some (.inr (17, [.null, .int 0, .int 0, .int 0]))) : Con l yJ11_init cJ11_init 2 none G 4 1 302 [.ref q, .ref p] σ (PV fun τ => StrAt G τ q t ∧ (∃ v, τ q = some (.inr (17, [.ref v, .int 0, .int 0, .int 0])) ∧ σ v = none) ∧ ∀ r, σ r ≠ none → r ≠ q → τ r = σ r) := by
  refine con_of (by decide) (Nat.le_of_ble_eq_true rfl) ?_
  refine x_locs (L' := [(0, .ref q), (1, .ref p)]) [0, 1] rfl ?_
  refine x_aload_n dJ11_init_0 0 rfl rfl ?_
  refine x_aload_n dJ11_init_1 1 rfl rfl ?_
  refine x_null dJ11_init_2 ?_
  refine x_callI dJ11_init_3 (con_J11_init_2 hS hq) (lw_meth q819) q99 q817 q818 rfl (np := 2) (by decide +kernel) rfl ⟨Nat.le_of_ble_eq_true rfl, Nat.le_of_ble_eq_true rfl⟩ (Nat.le_of_ble_eq_true rfl) rfl (Nat.le_refl _) (Nat.le_refl _) (rV fun σ1 h1 => ?_) nV'
  exact x_vret dJ11_init_6 rfl (⟨rfl, h1⟩)
set_option maxHeartbeats 4000000 in
set_option maxRecDepth 100000 in
theorem con_J10_toString {l : Launch} {G : YG} {σ : AH} {p b N : Nat} {t : List Nat} (hS : SB σ p b N t) : Con l yJ10_toString cJ10_toString 1 (some (FieldType.object "java/lang/String")) G 5 2 306 [.ref p] σ (PA fun z τ => σ z = none ∧ StrAt G τ z t ∧ (∃ v, τ z = some (.inr (17, [.ref v, .int 0, .int 0, .int 0])) ∧ σ v = none) ∧ RO σ τ) := by
  refine con_of (by decide) (Nat.le_of_ble_eq_true rfl) ?_
  refine x_locs (L' := [(0, .ref p)]) [0] rfl ?_
  refine x_new (fs := [.null, .int 0, .int 0, .int 0]) dJ10_toString_0 vC_17 in_J11 tyJ11_ok q812 q813 q99 rfl (by omega) (by omega) (fun z σ1 hn2 hb3 hc4 hu5 => ?_)
  have hS2 := hS.ro (ro_new hn2 hu5)
  refine x_dup dJ10_toString_3 rfl ?_
  refine x_aload_n dJ10_toString_4 0 rfl rfl ?_
  refine x_callI dJ10_toString_5 (con_J11_init hS2 hc4) (lw_meth q816) q99 q814 q815 rfl (np := 1) (by decide +kernel) rfl ⟨Nat.le_of_ble_eq_true rfl, Nat.le_of_ble_eq_true rfl⟩ (Nat.le_of_ble_eq_true rfl) rfl (Nat.le_refl _) (Nat.le_refl _) (rV fun σ6 h1 => ?_) nV'
  refine x_aret dJ10_toString_8 rfl (by first | exact Or.inl ⟨_, rfl⟩ | exact Or.inr ⟨_, rfl⟩) (Or.inr ⟨_, rfl⟩) ⟨_, rfl, hn2, h1.1, ?_, fun r e hr => ?_⟩
  · obtain ⟨v, k1, k2⟩ := h1.2.1
    refine ⟨v, k1, ?_⟩
    have : v ≠ z := fun e => by rw [e, hc4] at k2; cases k2
    rw [← hu5 v this]; exact k2
  · have hrz : r ≠ z := cell_nn hn2 hr
    rw [h1.2.2 r (by rw [hu5 r hrz, hr]; exact fun z => by cases z) hrz, hu5 r hrz]; exact hr
