set_option maxRecDepth 100000
set_option maxHeartbeats 4000000 in
set_option maxRecDepth 100000 in
theorem con_J4_isPositionIndex {l : Launch} {G : YG} {σ : AH} {p : Nat} {mc : Int32} {ns : NL} {i : Nat} (hL : LL σ p mc ns) (hi : i ≤ ns.length) : Con l yJ4_isPositionIndex cJ4_isPositionIndex 2 (some FieldType.boolean) G 0 0 0 [.ref p, .int (nI i)] σ (PS σ 1) := by
  refine con_of (by decide) (Nat.le_of_ble_eq_true rfl) ?_
  refine x_locs (L' := [(0, .ref p), (1, .int (nI i))]) [0, 1] rfl ?_
  have hl := hL.len
  have hp := hL.1
  refine x_iload_n dJ4_isPositionIndex_0 1 rfl rfl ?_
  refine x_if_lt (tgt := 16) dJ4_isPositionIndex_1 (by decide) (fun h_ => absurd h_ (nI_pos (by omega))) (fun _ => ?_)
  refine x_iload_n dJ4_isPositionIndex_4 1 rfl rfl ?_
  refine x_aload_n dJ4_isPositionIndex_5 0 rfl rfl ?_
  refine x_get dJ4_isPositionIndex_6 vC_11 in_J4 hp 1 (by decide) q192 rfl ?_
  refine x_icmp_gt (tgt := 16) dJ4_isPositionIndex_9 (by decide) (fun h_ => absurd h_ (fun h => absurd (nLt (by omega) (by omega) h) (by omega))) (fun _ => ?_)
  refine x_iconst (v := nI 1) dJ4_isPositionIndex_12 (by decide) ?_
  refine x_goto (tgt := 17) dJ4_isPositionIndex_13 (by decide) ?_
  exact x_zret dJ4_isPositionIndex_17 rfl (rfl) (pS' rfl)
set_option maxHeartbeats 4000000 in
set_option maxRecDepth 100000 in
theorem con_J4_isElementIndex {l : Launch} {G : YG} {σ : AH} {p : Nat} {mc : Int32} {ns : NL} {i : Nat} (hL : LL σ p mc ns) (hi : i < ns.length) : Con l yJ4_isElementIndex cJ4_isElementIndex 2 (some FieldType.boolean) G 0 0 0 [.ref p, .int (nI i)] σ (PS σ 1) := by
  refine con_of (by decide) (Nat.le_of_ble_eq_true rfl) ?_
  refine x_locs (L' := [(0, .ref p), (1, .int (nI i))]) [0, 1] rfl ?_
  have hl := hL.len
  have hp := hL.1
  refine x_iload_n dJ4_isElementIndex_0 1 rfl rfl ?_
  refine x_if_lt (tgt := 16) dJ4_isElementIndex_1 (by decide) (fun h_ => absurd h_ (nI_pos (by omega))) (fun _ => ?_)
  refine x_iload_n dJ4_isElementIndex_4 1 rfl rfl ?_
  refine x_aload_n dJ4_isElementIndex_5 0 rfl rfl ?_
  refine x_get dJ4_isElementIndex_6 vC_11 in_J4 hp 1 (by decide) q192 rfl ?_
  refine x_icmp_ge (tgt := 16) dJ4_isElementIndex_9 (by decide) (fun h_ => absurd h_ (fun h => absurd (nLe (by omega) (by omega) h) (by omega))) (fun _ => ?_)
  refine x_iconst (v := nI 1) dJ4_isElementIndex_12 (by decide) ?_
  refine x_goto (tgt := 17) dJ4_isElementIndex_13 (by decide) ?_
  exact x_zret dJ4_isElementIndex_17 rfl (rfl) (pS' rfl)
set_option maxHeartbeats 4000000 in
set_option maxRecDepth 100000 in
theorem con_J4_checkPositionIndex {l : Launch} {G : YG} {σ : AH} {p : Nat} {mc : Int32} {ns : NL} {i : Nat} (hL : LL σ p mc ns) (hi : i ≤ ns.length) : Con l yJ4_checkPositionIndex cJ4_checkPositionIndex 2 none G 1 0 0 [.ref p, .int (nI i)] σ (PV fun τ => τ = σ) := by
  refine con_of (by decide) (Nat.le_of_ble_eq_true rfl) ?_
  refine x_locs (L' := [(0, .ref p), (1, .int (nI i))]) [0, 1] rfl ?_
  refine x_aload_n dJ4_checkPositionIndex_0 0 rfl rfl ?_
  refine x_iload_n dJ4_checkPositionIndex_1 1 rfl rfl ?_
  refine x_callV dJ4_checkPositionIndex_2 (con_J4_isPositionIndex hL hi) (lw_V q477 q479 qs5 q91 q480) (np := 1) (by decide +kernel) rfl hL.rc ⟨Nat.le_of_ble_eq_true rfl, Nat.le_of_ble_eq_true rfl⟩ (Nat.le_of_ble_eq_true rfl) rfl (by decide) (by decide) (rS ?_) nI'
  refine x_if_ne (tgt := 21) dJ4_checkPositionIndex_5 (by decide) (fun _ => ?_) (fun h_ => absurd h_ (by decide))
  exact x_vret dJ4_checkPositionIndex_21 rfl (⟨rfl, rfl⟩)
set_option maxHeartbeats 4000000 in
set_option maxRecDepth 100000 in
theorem con_J4_checkElementIndex {l : Launch} {G : YG} {σ : AH} {p : Nat} {mc : Int32} {ns : NL} {i : Nat} (hL : LL σ p mc ns) (hi : i < ns.length) : Con l yJ4_checkElementIndex cJ4_checkElementIndex 2 none G 1 0 0 [.ref p, .int (nI i)] σ (PV fun τ => τ = σ) := by
  refine con_of (by decide) (Nat.le_of_ble_eq_true rfl) ?_
  refine x_locs (L' := [(0, .ref p), (1, .int (nI i))]) [0, 1] rfl ?_
  refine x_aload_n dJ4_checkElementIndex_0 0 rfl rfl ?_
  refine x_iload_n dJ4_checkElementIndex_1 1 rfl rfl ?_
  refine x_callV dJ4_checkElementIndex_2 (con_J4_isElementIndex hL hi) (lw_V q612 q614 qs7 q91 q615) (np := 1) (by decide +kernel) rfl hL.rc ⟨Nat.le_of_ble_eq_true rfl, Nat.le_of_ble_eq_true rfl⟩ (Nat.le_of_ble_eq_true rfl) rfl (by decide) (by decide) (rS ?_) nI'
  refine x_if_ne (tgt := 21) dJ4_checkElementIndex_5 (by decide) (fun _ => ?_) (fun h_ => absurd h_ (by decide))
  exact x_vret dJ4_checkElementIndex_21 rfl (⟨rfl, rfl⟩)
set_option maxHeartbeats 4000000 in
set_option maxRecDepth 100000 in
theorem con_J4_node {l : Launch} {G : YG} {σ : AH} {p : Nat} {mc : Int32} {ns : NL} {i : Nat} {x : Nat × Nat} (hL : LL σ p mc ns) (hx : ns[i]? = some x) : Con l yJ4_node cJ4_node 4 (some (FieldType.object "java/util/LinkedList$Node")) G 0 0 0 [.ref p, .int (nI i)] σ (PA fun z τ => z = x.1 ∧ τ = σ) := by
  refine con_of (by decide) (Nat.le_of_ble_eq_true rfl) ?_
  refine x_locs (L' := [(0, .ref p), (1, .int (nI i))]) [0, 1] rfl ?_
  have hl := hL.len
  have hp := hL.1
  have hlt := get_lt' hx
  obtain ⟨y0, hy0⟩ : ∃ y, ns[0]? = some y := ⟨_, List.getElem?_eq_getElem (by omega)⟩
  obtain ⟨n, hn⟩ : ∃ n, ns.length = n + 1 := ⟨ns.length - 1, by omega⟩
  obtain ⟨yn, hyn⟩ : ∃ y, ns[n]? = some y := ⟨_, List.getElem?_eq_getElem (by omega)⟩
  rw [nx_some hy0, hn, show pv ns (n + 1) = some yn.1 from nx_some hyn] at hp
  refine x_iload_n dJ4_node_0 1 rfl rfl ?_
  refine x_aload_n dJ4_node_1 0 rfl rfl ?_
  refine x_get dJ4_node_2 vC_11 in_J4 hp 1 (by decide) q192 rfl ?_
  refine x_iconst (v := nI 1) dJ4_node_5 (by decide) ?_
  refine x_ishr dJ4_node_6 ?_
  refine x_icmp_ge (tgt := 35) dJ4_node_7 (by decide) (fun c1 => ?_) (fun c1 => ?_)
  · refine x_aload_n dJ4_node_35 0 rfl rfl ?_
    refine x_get dJ4_node_36 vC_11 in_J4 hp 3 (by decide) q195 rfl ?_
    refine x_astore_n (i := 2) (L' := [(2, .ref yn.1), (0, .ref p), (1, .int (nI i))]) dJ4_node_39 rfl (by decide) rfl ?_
    refine x_aload_n dJ4_node_40 1 rfl rfl ?_
    refine x_get dJ4_node_41 vC_11 in_J4 hp 1 (by decide) q192 rfl ?_
    refine x_iconst (v := nI 1) dJ4_node_44 (by decide) ?_
    refine x_isub dJ4_node_45 ?_
    refine x_top (x' := nI n) (nI_sub (by omega)) ?_
    refine x_istore_n (i := 3) (L' := [(3, .int (nI n)), (2, .ref yn.1), (0, .ref p), (1, .int (nI i))]) dJ4_node_46 rfl (by decide) rfl ?_
    refine x_locs (L' := [(0, .ref p), (1, .int (nI i)), (2, .ref yn.1), (3, .int (nI n))]) [2, 3, 1, 0] rfl ?_
    suffices loop : ∀ (d : Nat) (xk : Nat × Nat), i + d < ns.length → ns[i + d]? = some xk → X l yJ4_node cJ4_node 4 (some (FieldType.object "java/util/LinkedList$Node")) [] G (yroom 0 0 0) (yEnd G (yroom 0 0 0) (PA fun z τ => z = x.1 ∧ τ = σ)) 47 [(0, .ref p), (1, .int (nI i)), (2, .ref xk.1), (3, .int (nI (i + d)))] [] σ 0 0 from by
      have := loop (n - i) yn (by omega) (by rw [show i + (n - i) = n by omega]; exact hyn)
      rw [show i + (n - i) = n by omega] at this
      exact this
    intro d
    induction d with
    | zero =>
      intro xk hk hxk
      have he : xk = x := Option.some.inj (hxk.symm.trans hx)
      subst he
      refine x_iload_n dJ4_node_47 3 rfl rfl ?_
      refine x_iload_n dJ4_node_48 1 rfl rfl ?_
      refine x_icmp_le (tgt := 63) dJ4_node_49 (by decide) (fun _ => ?_) (fun h_ => absurd ((nI_leI (by omega) (by omega)).mpr (Nat.le_refl _)) h_)
      refine x_aload_n dJ4_node_63 2 rfl rfl ?_
      exact x_aret dJ4_node_64 rfl (by first | exact Or.inl ⟨_, rfl⟩ | exact Or.inr ⟨_, rfl⟩) (Or.inr ⟨_, rfl⟩) (⟨_, rfl, rfl, rfl⟩)
    | succ d ih =>
      intro xk hk hxk
      obtain ⟨y, hy⟩ : ∃ y, ns[i + d]? = some y := ⟨_, List.getElem?_eq_getElem (by omega)⟩
      have hc := hL.2.1 (i + d + 1) xk hxk
      rw [show pv ns (i + d + 1) = some y.1 from nx_some hy] at hc
      refine x_iload_n dJ4_node_47 3 rfl rfl ?_
      refine x_iload_n dJ4_node_48 1 rfl rfl ?_
      refine x_icmp_le (tgt := 63) dJ4_node_49 (by decide) (fun h_ => absurd h_ (fun h => absurd (nLe (by omega) (by omega) h) (by omega))) (fun _ => ?_)
      refine x_aload_n dJ4_node_52 2 rfl rfl ?_
      refine x_get dJ4_node_53 vC_12 in_J26 hc 2 (by decide) q937 rfl ?_
      refine x_astore_n (i := 2) (L' := [(2, .ref y.1), (0, .ref p), (1, .int (nI i)), (3, .int (nI (i + d + 1)))]) dJ4_node_56 rfl (by decide) rfl ?_
      refine x_iinc (i := 3) (q := 3) (v := nI (i + d)) (L' := [(3, .int (nI (i + d))), (2, .ref y.1), (0, .ref p), (1, .int (nI i))]) dJ4_node_57 rfl (pk_m1 _) (by decide) rfl ?_
      refine x_goto (tgt := 47) dJ4_node_60 (by decide) ?_
      refine x_locs (L' := [(0, .ref p), (1, .int (nI i)), (2, .ref y.1), (3, .int (nI (i + d)))]) [2, 3, 1, 0] rfl ?_
      exact ih y (by omega) hy
  · refine x_aload_n dJ4_node_10 0 rfl rfl ?_
    refine x_get dJ4_node_11 vC_11 in_J4 hp 2 (by decide) q194 rfl ?_
    refine x_astore_n (i := 2) (L' := [(2, .ref y0.1), (0, .ref p), (1, .int (nI i))]) dJ4_node_14 rfl (by decide) rfl ?_
    refine x_iconst (v := nI 0) dJ4_node_15 (by decide) ?_
    refine x_istore_n (i := 3) (L' := [(3, .int (nI 0)), (2, .ref y0.1), (0, .ref p), (1, .int (nI i))]) dJ4_node_16 rfl (by decide) rfl ?_
    refine x_locs (L' := [(0, .ref p), (1, .int (nI i)), (2, .ref y0.1), (3, .int (nI 0))]) [2, 3, 1, 0] rfl ?_
    suffices loop : ∀ (d k : Nat) (xk : Nat × Nat), k + d = i → ns[k]? = some xk → X l yJ4_node cJ4_node 4 (some (FieldType.object "java/util/LinkedList$Node")) [] G (yroom 0 0 0) (yEnd G (yroom 0 0 0) (PA fun z τ => z = x.1 ∧ τ = σ)) 17 [(0, .ref p), (1, .int (nI i)), (2, .ref xk.1), (3, .int (nI k))] [] σ 0 0 from loop i 0 y0 (Nat.zero_add _) hy0
    intro d
    induction d with
    | zero =>
      intro k xk hk hxk
      have hki : k = i := by omega
      subst hki
      have he : xk = x := Option.some.inj (hxk.symm.trans hx)
      subst he
      refine x_iload_n dJ4_node_17 3 rfl rfl ?_
      refine x_iload_n dJ4_node_18 1 rfl rfl ?_
      refine x_icmp_ge (tgt := 33) dJ4_node_19 (by decide) (fun _ => ?_) (fun h_ => absurd ((nI_leI (by omega) (by omega)).mpr (Nat.le_refl _)) h_)
      refine x_aload_n dJ4_node_33 2 rfl rfl ?_
      exact x_aret dJ4_node_34 rfl (by first | exact Or.inl ⟨_, rfl⟩ | exact Or.inr ⟨_, rfl⟩) (Or.inr ⟨_, rfl⟩) (⟨_, rfl, rfl, rfl⟩)
    | succ d ih =>
      intro k xk hk hxk
      obtain ⟨y, hy⟩ : ∃ y, ns[k + 1]? = some y := ⟨_, List.getElem?_eq_getElem (by omega)⟩
      have hc := hL.2.1 k xk hxk
      rw [nx_some hy] at hc
      refine x_iload_n dJ4_node_17 3 rfl rfl ?_
      refine x_iload_n dJ4_node_18 1 rfl rfl ?_
      refine x_icmp_ge (tgt := 33) dJ4_node_19 (by decide) (fun h_ => absurd h_ (fun h => absurd (nLe (by omega) (by omega) h) (by omega))) (fun _ => ?_)
      refine x_aload_n dJ4_node_22 2 rfl rfl ?_
      refine x_get dJ4_node_23 vC_12 in_J26 hc 1 (by decide) q935 rfl ?_
      refine x_astore_n (i := 2) (L' := [(2, .ref y.1), (0, .ref p), (1, .int (nI i)), (3, .int (nI k))]) dJ4_node_26 rfl (by decide) rfl ?_
      refine x_iinc (i := 3) (q := 3) (v := nI (k + 1)) (L' := [(3, .int (nI (k + 1))), (2, .ref y.1), (0, .ref p), (1, .int (nI i))]) dJ4_node_27 rfl (nI_1 _) (by decide) rfl ?_
      refine x_goto (tgt := 17) dJ4_node_30 (by decide) ?_
      refine x_locs (L' := [(0, .ref p), (1, .int (nI i)), (2, .ref y.1), (3, .int (nI (k + 1)))]) [2, 3, 1, 0] rfl ?_
      exact ih (k + 1) y (by omega) hy
set_option maxHeartbeats 4000000 in
set_option maxRecDepth 100000 in
theorem con_J4_get {l : Launch} {G : YG} {σ : AH} {p : Nat} {mc : Int32} {ns : NL} {i : Nat} {x : Nat × Nat} (hL : LL σ p mc ns) (hx : ns[i]? = some x) : Con l yJ4_get cJ4_get 2 (some (FieldType.object "java/lang/Object")) G 2 0 0 [.ref p, .int (nI i)] σ (PA fun z τ => z = x.2 ∧ τ = σ) := by
  refine con_of (by decide) (Nat.le_of_ble_eq_true rfl) ?_
  refine x_locs (L' := [(0, .ref p), (1, .int (nI i))]) [0, 1] rfl ?_
  refine x_aload_n dJ4_get_0 0 rfl rfl ?_
  refine x_iload_n dJ4_get_1 1 rfl rfl ?_
  refine x_callV dJ4_get_2 (con_J4_checkElementIndex hL (get_lt' hx)) (lw_V q608 q610 qs6 q91 q611) (np := 1) (by decide +kernel) rfl hL.rc ⟨Nat.le_of_ble_eq_true rfl, Nat.le_of_ble_eq_true rfl⟩ (Nat.le_of_ble_eq_true rfl) rfl (by decide) (by decide) (rV fun σ1 h1 => ?_) nV'
  subst h1
  refine x_aload_n dJ4_get_5 0 rfl rfl ?_
  refine x_iload_n dJ4_get_6 1 rfl rfl ?_
  refine x_callV dJ4_get_7 (con_J4_node hL hx) (lw_V q616 q488 q489 q91 q490) (np := 1) (by decide +kernel) rfl hL.rc ⟨Nat.le_of_ble_eq_true rfl, Nat.le_of_ble_eq_true rfl⟩ (Nat.le_of_ble_eq_true rfl) rfl (by decide) (by decide) (rA fun z σ3 h2 => ?_) nA'
  obtain ⟨rfl, rfl⟩ := h2
  have hc := hL.2.1 i x hx
  refine x_get dJ4_get_10 vC_12 in_J26 hc 0 (by decide) q932 rfl ?_
  exact x_aret dJ4_get_13 rfl (by first | exact Or.inl ⟨_, rfl⟩ | exact Or.inr ⟨_, rfl⟩) (Or.inr ⟨_, rfl⟩) (⟨_, rfl, rfl, rfl⟩)
set_option maxHeartbeats 4000000 in
set_option maxRecDepth 100000 in
theorem con_J4_linkBefore {l : Launch} {G : YG} {σ : AH} {p : Nat} {mc : Int32} {ns : NL} {it i : Nat} {x : Nat × Nat} (hL : LL σ p mc ns) (hx : ns[i]? = some x) (hl : ns.length + 1 < 2 ^ 20) : Con l yJ4_linkBefore cJ4_linkBefore 5 none G 2 1 3 [.ref p, .ref it, .ref x.1] σ (PV fun τ => ∃ q, σ q = none ∧ LL τ p (mc + 1) (ns.take i ++ (q, it) :: ns.drop i) ∧ Fr (LW p ns) σ τ) := by
  refine con_of (by decide) (Nat.le_of_ble_eq_true rfl) ?_
  refine x_locs (L' := [(0, .ref p), (1, .ref it), (2, .ref x.1)]) [0, 1, 2] rfl ?_
  have hlen := hL.len
  have hlt := get_lt' hx
  obtain ⟨xx, hxx⟩ : ∃ xx, xx = x.1 := ⟨_, rfl⟩
  rw [← hxx]
  have hp := hL.1
  have hx1 := hL.2.1 i x hx
  rw [← hxx] at hx1
  have hp0 := hp
  have hx0 := hx1
  rcases Nat.eq_zero_or_pos i with h0 | h0
  · subst h0
    refine x_aload_n dJ4_linkBefore_0 2 rfl rfl ?_
    refine x_get dJ4_linkBefore_1 vC_12 in_J26 hx1 2 (by decide) q937 rfl ?_
    refine x_astore_nN (i := 3) (L' := [(3, .null), (0, .ref p), (1, .ref it), (2, .ref xx)]) dJ4_linkBefore_4 rfl (by decide) rfl ?_
    refine x_new (fs := [.null, .null, .null]) dJ4_linkBefore_5 vC_12 in_J26 tyJ26_ok q924 q925 q117 rfl (by omega) (by omega) (fun q σ1 hn2 hb3 hc4 hu5 => ?_)
    have n_p_q : p ≠ q := cell_nn hn2 hp
    have hp := ro_new hn2 hu5 _ _ hp
    have n_xx_q : xx ≠ q := cell_nn hn2 hx1
    have hx1 := ro_new hn2 hu5 _ _ hx1
    have hK : Kp (fun r => r = p ∨ r = q ∨ r = xx) σ σ1 := fun r hr => hu5 r (fun z => hr (Or.inr (Or.inl z)))
    refine x_dup dJ4_linkBefore_8 rfl ?_
    refine x_aload_nN dJ4_linkBefore_9 0 rfl rfl ?_
    refine x_aload_n dJ4_linkBefore_10 2 rfl rfl ?_
    refine x_aload_n dJ4_linkBefore_11 3 rfl rfl ?_
    refine x_callI dJ4_linkBefore_12 (con_J26_init_na hc4) (lw_meth q928) q117 q926 q927 rfl (np := 3) (by decide +kernel) rfl ⟨Nat.le_of_ble_eq_true rfl, Nat.le_of_ble_eq_true rfl⟩ (Nat.le_of_ble_eq_true rfl) rfl (Nat.zero_le _) (Nat.zero_le _) (rV fun σ6 h1 => ?_) nV'
    have hp := at_put h1.2 hp (cell_ne hc4 hp rfl)
    have hx1 := at_put h1.2 hx1 n_xx_q
    have hK := hK.put h1.2 (Or.inr (Or.inl rfl))
    have hc8 := h1.1
    refine x_astore (i := 4) (L' := [(4, .ref q), (3, .null), (0, .ref p), (1, .ref it), (2, .ref xx)]) dJ4_linkBefore_15 (by decide) rfl ?_
    refine x_aload_n dJ4_linkBefore_17 4 rfl rfl ?_
    refine x_aload dJ4_linkBefore_18 0 rfl ?_
    refine x_put (fs' := [.ref x.2, va_rf (nx ns (0 + 1)), .ref q]) dJ4_linkBefore_20 vC_12 in_J26 tyJ26_ok nmJ26 hx1 2 (by decide) q937 rfl rfl (rfl) (rfl) (Nat.le_of_ble_eq_true rfl) rfl (fun σ9 hc11 hu10 => ?_)
    have hp := at_put hu10 hp (cell_ne hx1 hp rfl)
    have hc8 := at_put hu10 hc8 (fun e => n_xx_q e.symm)
    have hK := hK.put hu10 (Or.inr (Or.inr rfl))
    refine x_aload_nN dJ4_linkBefore_23 1 rfl rfl ?_
    refine x_ifnonnullN dJ4_linkBefore_24 ?_
    refine x_aload_n dJ4_linkBefore_27 2 rfl rfl ?_
    refine x_aload dJ4_linkBefore_28 0 rfl ?_
    refine x_put (fs' := [.int mc, .int (nI ns.length), .ref q, va_rf (pv ns ns.length)]) dJ4_linkBefore_30 vC_11 in_J4 tyJ4_ok nmJ4 hp 2 (by decide) q194 rfl rfl (rfl) (rfl) (Nat.le_of_ble_eq_true rfl) rfl (fun σ12 hc14 hu13 => ?_)
    have hc11 := at_put hu13 hc11 (cell_ne hp hc11 rfl)
    have hc8 := at_put hu13 hc8 (cell_ne hp hc8 rfl)
    have hK := hK.put hu13 (Or.inl rfl)
    refine x_goto (tgt := 42) dJ4_linkBefore_33 (by decide) ?_
    refine x_aload_n dJ4_linkBefore_42 2 rfl rfl ?_
    refine x_dup dJ4_linkBefore_43 rfl ?_
    refine x_get dJ4_linkBefore_44 vC_11 in_J4 hc14 1 (by decide) q192 rfl ?_
    refine x_iconst (v := nI 1) dJ4_linkBefore_47 (by decide) ?_
    refine x_iadd dJ4_linkBefore_48 ?_
    refine x_top (x' := nI (ns.length + 1)) (nI_add _ _) ?_
    refine x_put (fs' := [.int mc, .int (nI (ns.length + 1)), .ref q, va_rf (pv ns ns.length)]) dJ4_linkBefore_49 vC_11 in_J4 tyJ4_ok nmJ4 hc14 1 (by decide) q192 rfl rfl (rfl) (rfl) (Nat.le_of_ble_eq_true rfl) rfl (fun σ15 hc17 hu16 => ?_)
    have hc11 := at_put hu16 hc11 (cell_ne hc14 hc11 rfl)
    have hc8 := at_put hu16 hc8 (cell_ne hc14 hc8 rfl)
    have hK := hK.put hu16 (Or.inl rfl)
    refine x_aload_n dJ4_linkBefore_52 2 rfl rfl ?_
    refine x_dup dJ4_linkBefore_53 rfl ?_
    refine x_getS (ref := "java/util/LinkedList") dJ4_linkBefore_54 vC_11 in_J4 hc17 0 (by decide) q173 q169 rfl ?_
    refine x_iconst (v := nI 1) dJ4_linkBefore_57 (by decide) ?_
    refine x_iadd dJ4_linkBefore_58 ?_
    refine x_putS (ref := "java/util/LinkedList") (fs' := [.int (mc + (nI 1)), .int (nI (ns.length + 1)), .ref q, va_rf (pv ns ns.length)]) dJ4_linkBefore_59 vC_11 in_J4 tyJ4_ok nmJ4 hc17 0 (by decide) q173 q169 rfl rfl (rfl) (rfl) (Nat.le_of_ble_eq_true rfl) rfl (fun σ18 hc20 hu19 => ?_)
    have hc11 := at_put hu19 hc11 (cell_ne hc17 hc11 rfl)
    have hc8 := at_put hu19 hc8 (cell_ne hc17 hc8 rfl)
    have hK := hK.put hu19 (Or.inl rfl)
    refine x_vret dJ4_linkBefore_62 rfl ⟨rfl, q, hn2, hL.ins (it := it) (Nat.zero_le _) hn2 hl ?_ ?_ (fun j y hj => ?_), Fr.ofKp hK (fun r hr => ?_)⟩
    · rw [if_pos rfl, if_neg (show ¬ 0 = ns.length by omega)]; exact hc20
    · rw [nx_some hx, ← hxx]; exact hc8
    · rw [if_neg (show ¬ j + 1 = 0 by omega)]
      by_cases e : j = 0
      · subst e
        rw [hx] at hj
        cases hj
        rw [if_pos rfl, ← hxx]; exact hc11
      · rw [if_neg e, hK y.1 (fun w => ?_)]
        · exact hL.2.1 j y hj
        · rcases w with w | w | w
          · exact hL.pne hj w
          · exact hL.nn hj hn2 w
          · exact e (hL.inj hj hx (w.trans hxx))
    · rcases hr with rfl | rfl | rfl
      · exact wr_ok (Or.inl rfl) hp0 hc20 rfl
      · exact Or.inl hn2
      · exact wr_ok (hxx ▸ hL.mem hx) hx0 hc11 rfl
  · obtain ⟨j, rfl⟩ : ∃ j, i = j + 1 := ⟨i - 1, by omega⟩
    obtain ⟨y, hy⟩ : ∃ y, ns[j]? = some y := ⟨_, List.getElem?_eq_getElem (by omega)⟩
    obtain ⟨yy, hyy⟩ : ∃ yy, yy = y.1 := ⟨_, rfl⟩
    have hy1 := hL.2.1 j y hy
    rw [← hyy] at hy1
    have hpv : pv ns (j + 1) = some yy := by rw [hyy]; exact nx_some hy
    rw [hpv] at hx1
    have hxy : xx ≠ yy := fun e => by have := hL.inj hx hy (by rw [← hxx, ← hyy]; exact e); omega
    have hy0 := hy1
    refine x_aload_n dJ4_linkBefore_0 2 rfl rfl ?_
    refine x_get dJ4_linkBefore_1 vC_12 in_J26 hx1 2 (by decide) q937 rfl ?_
    refine x_astore_n (i := 3) (L' := [(3, .ref yy), (0, .ref p), (1, .ref it), (2, .ref xx)]) dJ4_linkBefore_4 rfl (by decide) rfl ?_
    refine x_new (fs := [.null, .null, .null]) dJ4_linkBefore_5 vC_12 in_J26 tyJ26_ok q924 q925 q117 rfl (by omega) (by omega) (fun q σ21 hn22 hb23 hc24 hu25 => ?_)
    have n_p_q : p ≠ q := cell_nn hn22 hp
    have hp := ro_new hn22 hu25 _ _ hp
    have n_xx_q : xx ≠ q := cell_nn hn22 hx1
    have hx1 := ro_new hn22 hu25 _ _ hx1
    have n_yy_q : yy ≠ q := cell_nn hn22 hy1
    have hy1 := ro_new hn22 hu25 _ _ hy1
    have hK : Kp (fun r => r = p ∨ r = q ∨ r = xx ∨ r = yy) σ σ21 := fun r hr => hu25 r (fun z => hr (Or.inr (Or.inl z)))
    refine x_dup dJ4_linkBefore_8 rfl ?_
    refine x_aload_n dJ4_linkBefore_9 0 rfl rfl ?_
    refine x_aload_n dJ4_linkBefore_10 2 rfl rfl ?_
    refine x_aload_n dJ4_linkBefore_11 3 rfl rfl ?_
    refine x_callI dJ4_linkBefore_12 (con_J26_init_aa hc24) (lw_meth q928) q117 q926 q927 rfl (np := 3) (by decide +kernel) rfl ⟨Nat.le_of_ble_eq_true rfl, Nat.le_of_ble_eq_true rfl⟩ (Nat.le_of_ble_eq_true rfl) rfl (Nat.zero_le _) (Nat.zero_le _) (rV fun σ26 h1 => ?_) nV'
    have hp := at_put h1.2 hp (cell_ne hc24 hp rfl)
    have hx1 := at_put h1.2 hx1 n_xx_q
    have hy1 := at_put h1.2 hy1 n_yy_q
    have hK := hK.put h1.2 (Or.inr (Or.inl rfl))
    have hc28 := h1.1
    refine x_astore (i := 4) (L' := [(4, .ref q), (3, .ref yy), (0, .ref p), (1, .ref it), (2, .ref xx)]) dJ4_linkBefore_15 (by decide) rfl ?_
    refine x_aload_n dJ4_linkBefore_17 4 rfl rfl ?_
    refine x_aload dJ4_linkBefore_18 0 rfl ?_
    refine x_put (fs' := [.ref x.2, va_rf (nx ns (j + 1 + 1)), .ref q]) dJ4_linkBefore_20 vC_12 in_J26 tyJ26_ok nmJ26 hx1 2 (by decide) q937 rfl rfl (rfl) (rfl) (Nat.le_of_ble_eq_true rfl) rfl (fun σ29 hc31 hu30 => ?_)
    have hp := at_put hu30 hp (cell_ne hx1 hp rfl)
    have hy1 := at_put hu30 hy1 (fun e => hxy e.symm)
    have hc28 := at_put hu30 hc28 (fun e => n_xx_q e.symm)
    have hK := hK.put hu30 (Or.inr (Or.inr (Or.inl rfl)))
    refine x_aload_n dJ4_linkBefore_23 1 rfl rfl ?_
    refine x_ifnonnull (tgt := 36) dJ4_linkBefore_24 (by decide) ?_
    refine x_aload_n dJ4_linkBefore_36 1 rfl rfl ?_
    refine x_aload dJ4_linkBefore_37 0 rfl ?_
    refine x_put (fs' := [.ref y.2, .ref q, va_rf (pv ns j)]) dJ4_linkBefore_39 vC_12 in_J26 tyJ26_ok nmJ26 hy1 1 (by decide) q935 rfl rfl (rfl) (rfl) (Nat.le_of_ble_eq_true rfl) rfl (fun σ32 hc34 hu33 => ?_)
    have hp := at_put hu33 hp (cell_ne hy1 hp rfl)
    have hc31 := at_put hu33 hc31 hxy
    have hc28 := at_put hu33 hc28 (fun e => n_yy_q e.symm)
    have hK := hK.put hu33 (Or.inr (Or.inr (Or.inr rfl)))
    refine x_aload_n dJ4_linkBefore_42 2 rfl rfl ?_
    refine x_dup dJ4_linkBefore_43 rfl ?_
    refine x_get dJ4_linkBefore_44 vC_11 in_J4 hp 1 (by decide) q192 rfl ?_
    refine x_iconst (v := nI 1) dJ4_linkBefore_47 (by decide) ?_
    refine x_iadd dJ4_linkBefore_48 ?_
    refine x_top (x' := nI (ns.length + 1)) (nI_add _ _) ?_
    refine x_put (fs' := [.int mc, .int (nI (ns.length + 1)), va_rf (nx ns 0), va_rf (pv ns ns.length)]) dJ4_linkBefore_49 vC_11 in_J4 tyJ4_ok nmJ4 hp 1 (by decide) q192 rfl rfl (rfl) (rfl) (Nat.le_of_ble_eq_true rfl) rfl (fun σ35 hc37 hu36 => ?_)
    have hc31 := at_put hu36 hc31 (cell_ne hp hc31 rfl)
    have hc34 := at_put hu36 hc34 (cell_ne hp hc34 rfl)
    have hc28 := at_put hu36 hc28 (cell_ne hp hc28 rfl)
    have hK := hK.put hu36 (Or.inl rfl)
    refine x_aload_n dJ4_linkBefore_52 2 rfl rfl ?_
    refine x_dup dJ4_linkBefore_53 rfl ?_
    refine x_getS (ref := "java/util/LinkedList") dJ4_linkBefore_54 vC_11 in_J4 hc37 0 (by decide) q173 q169 rfl ?_
    refine x_iconst (v := nI 1) dJ4_linkBefore_57 (by decide) ?_
    refine x_iadd dJ4_linkBefore_58 ?_
    refine x_putS (ref := "java/util/LinkedList") (fs' := [.int (mc + (nI 1)), .int (nI (ns.length + 1)), va_rf (nx ns 0), va_rf (pv ns ns.length)]) dJ4_linkBefore_59 vC_11 in_J4 tyJ4_ok nmJ4 hc37 0 (by decide) q173 q169 rfl rfl (rfl) (rfl) (Nat.le_of_ble_eq_true rfl) rfl (fun σ38 hc40 hu39 => ?_)
    have hc31 := at_put hu39 hc31 (cell_ne hc37 hc31 rfl)
    have hc34 := at_put hu39 hc34 (cell_ne hc37 hc34 rfl)
    have hc28 := at_put hu39 hc28 (cell_ne hc37 hc28 rfl)
    have hK := hK.put hu39 (Or.inl rfl)
    refine x_vret dJ4_linkBefore_62 rfl ⟨rfl, q, hn22, hL.ins (it := it) (Nat.le_of_lt hlt) hn22 hl ?_ ?_ (fun k y2 hk => ?_), Fr.ofKp hK (fun r hr => ?_)⟩
    · rw [if_neg (show ¬ j + 1 = 0 by omega), if_neg (show ¬ j + 1 = ns.length by omega)]; exact hc40
    · rw [nx_some hx, hpv, ← hxx]; exact hc28
    · by_cases e : k = j + 1
      · subst e
        rw [hx] at hk
        cases hk
        rw [if_pos rfl, if_neg (show ¬ j + 1 + 1 = j + 1 by omega), ← hxx]; exact hc31
      · rw [if_neg e]
        by_cases e2 : k = j
        · subst e2
          rw [hy] at hk
          cases hk
          rw [if_pos rfl, ← hyy]; exact hc34
        · rw [if_neg (show ¬ k + 1 = j + 1 by omega), hK y2.1 (fun w => ?_)]
          · exact hL.2.1 k y2 hk
          · rcases w with w | w | w | w
            · exact hL.pne hk w
            · exact hL.nn hk hn22 w
            · exact e (hL.inj hk hx (w.trans hxx))
            · exact e2 (hL.inj hk hy (w.trans hyy))
    · rcases hr with rfl | rfl | rfl | rfl
      · exact wr_ok (Or.inl rfl) hp0 hc40 rfl
      · exact Or.inl hn22
      · exact wr_ok (hxx ▸ hL.mem hx) hx0 hc31 rfl
      · exact wr_ok (hyy ▸ hL.mem hy) hy0 hc34 rfl
set_option maxHeartbeats 4000000 in
set_option maxRecDepth 100000 in
theorem con_J4_add {l : Launch} {G : YG} {σ : AH} {p : Nat} {mc : Int32} {ns : NL} {it i : Nat} (hL : LL σ p mc ns) (hi : i ≤ ns.length) (hl : ns.length + 1 < 2 ^ 20) : Con l yJ4_add cJ4_add 3 none G 3 1 3 [.ref p, .int (nI i), .ref it] σ (PV fun τ => ∃ q, σ q = none ∧ LL τ p (mc + 1) (ns.take i ++ (q, it) :: ns.drop i) ∧ Fr (LW p ns) σ τ) := by
  refine con_of (by decide) (Nat.le_of_ble_eq_true rfl) ?_
  refine x_locs (L' := [(0, .ref p), (1, .int (nI i)), (2, .ref it)]) [0, 1, 2] rfl ?_
  refine x_aload_n dJ4_add_0 0 rfl rfl ?_
  refine x_iload_n dJ4_add_1 1 rfl rfl ?_
  refine x_callV dJ4_add_2 (con_J4_checkPositionIndex hL hi) (lw_V q473 q475 qs4 q91 q476) (np := 1) (by decide +kernel) rfl hL.rc ⟨Nat.le_of_ble_eq_true rfl, Nat.le_of_ble_eq_true rfl⟩ (Nat.le_of_ble_eq_true rfl) rfl (by decide) (by decide) (rV fun σ1 h1 => ?_) nV'
  subst h1
  have hp := hL.1
  refine x_iload_n dJ4_add_5 1 rfl rfl ?_
  refine x_aload_n dJ4_add_6 0 rfl rfl ?_
  refine x_get dJ4_add_7 vC_11 in_J4 hp 1 (by decide) q192 rfl ?_
  refine x_icmp_ne (tgt := 21) dJ4_add_10 (by decide) (fun c1 => ?_) (fun c1 => ?_)
  · have c1 := nNe (by omega) (by omega) c1
    obtain ⟨x, hx⟩ : ∃ x, ns[i]? = some x := ⟨_, List.getElem?_eq_getElem (by omega)⟩
    refine x_aload_n dJ4_add_21 0 rfl rfl ?_
    refine x_aload_n dJ4_add_22 2 rfl rfl ?_
    refine x_aload_n dJ4_add_23 0 rfl rfl ?_
    refine x_iload_n dJ4_add_24 1 rfl rfl ?_
    refine x_callV dJ4_add_25 (con_J4_node hL hx) (lw_V q616 q488 q489 q91 q490) (np := 1) (by decide +kernel) rfl hL.rc ⟨Nat.le_of_ble_eq_true rfl, Nat.le_of_ble_eq_true rfl⟩ (Nat.le_of_ble_eq_true rfl) rfl (by decide) (by decide) (rA fun z σ3 h2 => ?_) nA'
    obtain ⟨rfl, rfl⟩ := h2
    refine x_callV dJ4_add_28 (con_J4_linkBefore hL hx hl) (lw_V q1122 q1123 q1124 q91 q1125) (np := 2) (by decide +kernel) rfl hL.rc ⟨Nat.le_of_ble_eq_true rfl, Nat.le_of_ble_eq_true rfl⟩ (Nat.le_of_ble_eq_true rfl) rfl (Nat.le_refl _) (Nat.le_refl _) (rV fun σ4 h3 => ?_) nV'
    exact x_vret dJ4_add_31 rfl (⟨rfl, h3⟩)
  · have c1 := nEq (by omega) (by omega) c1
    subst c1
    refine x_aload_n dJ4_add_13 0 rfl rfl ?_
    refine x_aload_n dJ4_add_14 2 rfl rfl ?_
    refine x_callV dJ4_add_15 (con_J4_linkLast hL hl) (lw_V q920 q921 q922 q91 q923) (np := 1) (by decide +kernel) rfl hL.rc ⟨Nat.le_of_ble_eq_true rfl, Nat.le_of_ble_eq_true rfl⟩ (Nat.le_of_ble_eq_true rfl) rfl (Nat.le_refl _) (Nat.le_refl _) (rV fun σ6 h3 => ?_) nV'
    refine x_goto (tgt := 31) dJ4_add_18 (by decide) ?_
    exact x_vret dJ4_add_31 rfl (⟨rfl, h3⟩)
