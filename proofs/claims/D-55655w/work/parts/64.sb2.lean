set_option maxRecDepth 100000
theorem okTl {t : List Nat} {c : Nat} (h : ∀ x ∈ t, x < 128) (hc : c < 128) : ∀ x ∈ t ++ [c], x < 128 := fun x hx => by
  rcases List.mem_append.mp hx with q | q
  · exact h x q
  · rcases List.mem_cons.mp q with q | q
    · rw [q]; exact hc
    · cases q
theorem upd_byt {f : Nat → Int32} {t : List Nat} {c : Nat} (h : BytF f t) : BytF (upd f t.length (nI c)) (t ++ [c]) := fun j x hx => by
  rw [List.getElem?_append] at hx
  split at hx
  · rename_i hj
    rw [pk_un (by omega)]; exact h j x hx
  · rename_i hj
    have hil := (List.getElem?_eq_some_iff.mp hx).1
    have hie : j = t.length := by simp at hil; omega
    subst hie
    rw [Nat.sub_self] at hx
    cases hx
    exact pk_us
theorem upd_fit {f : Nat → Int32} {N i c : Nat} (hc : c < 128) (h : ∀ j, j < N → fits .byte (.int (f j)) = true) : ∀ j, j < N → fits .byte (.int (upd f i (nI c) j)) = true := fun j hj => by
  by_cases e : j = i
  · subst e; rw [pk_us]; exact fit_b hc
  · rw [pk_un e]; exact h j hj
theorem ne_of_nn {σ : AH} {r p : Nat} (hr : σ r = none) (hp : σ p ≠ none) : r ≠ p := fun e => hp (by rw [← e]; exact hr)
set_option maxHeartbeats 4000000 in
set_option maxRecDepth 100000 in
theorem con_J9_append_2 {l : Launch} {G : YG} {σ : AH} {p b N : Nat} {t : List Nat} {c : Nat} (hS : SB σ p b N t) (hc : c < 128) (hl : t.length < 150) : Con l yJ9_append_2 cJ9_append_2 2 (some (FieldType.object "java/lang/AbstractStringBuilder")) G 4 1 302 [.ref p, .int (nI c)] σ (PA fun z τ => z = p ∧ ∃ b' N', SB τ p b' N' (t ++ [c]) ∧ SK σ τ p b b') := by
  refine con_of (by decide) (Nat.le_of_ble_eq_true rfl) ?_
  refine x_locs (L' := [(0, .ref p), (1, .int (nI c))]) [0, 1] rfl ?_
  have hpb := hS.ne
  obtain ⟨⟨ml, hp⟩, ⟨f, hbc, hf, hby⟩, hch, htN, hN⟩ := id hS
  refine x_aload_n dJ9_append_2_0 0 rfl rfl ?_
  refine x_aload_n dJ9_append_2_1 0 rfl rfl ?_
  refine x_get dJ9_append_2_2 vC_16 in_J10 hp 3 (by decide) q356 rfl ?_
  refine x_iconst (v := nI 1) dJ9_append_2_5 (by decide) ?_
  refine x_iadd dJ9_append_2_6 ?_
  refine x_top (x' := nI (t.length + 1)) (nI_add _ _) ?_
  refine x_callP dJ9_append_2_7 (con_J9_ensureCapacityInternal hS (by omega)) q713 q2252 q714 q715 q97 q716 q736 rfl (np := 1) (by decide +kernel) rfl hS.rc ⟨Nat.le_of_ble_eq_true rfl, Nat.le_of_ble_eq_true rfl⟩ (Nat.le_of_ble_eq_true rfl) rfl (Nat.le_refl _) (Nat.le_refl _) (rV fun σ1 h1 => ?_) nV'
  obtain ⟨b1, N1, hS1, hm1, hfr1, hb1⟩ := h1
  have hpb1 := hS1.ne
  obtain ⟨⟨ml1, hp1⟩, ⟨f1, hbc1, hf1, hby1⟩, -, htN1, hN1⟩ := id hS1
  refine x_aload_n dJ9_append_2_10 0 rfl rfl ?_
  refine x_callU dJ9_append_2_11 (con_J9_isLatin1 hS1) (lw_U q733 q735 q736 q734 q97 q737) rfl (np := 0) (by decide +kernel) rfl hS1.rc ⟨Nat.le_of_ble_eq_true rfl, Nat.le_of_ble_eq_true rfl⟩ (Nat.le_of_ble_eq_true rfl) rfl (Nat.zero_le _) (Nat.zero_le _) (rS ?_) nI'
  refine x_if_eq (tgt := 45) dJ9_append_2_14 (by decide) (fun h_ => absurd h_ (by decide)) (fun _ => ?_)
  refine x_iload_n dJ9_append_2_17 1 rfl rfl ?_
  refine x_callS dJ9_append_2_18 (con_J25_canEncode (c := c) (by omega)) (lw_S q1516 q1517 q116 q1518) (np := 1) (by decide +kernel) rfl ⟨Nat.le_of_ble_eq_true rfl, Nat.le_of_ble_eq_true rfl⟩ (Nat.le_of_ble_eq_true rfl) rfl (Nat.zero_le _) (Nat.zero_le _) (rS ?_) nI'
  refine x_if_eq (tgt := 45) dJ9_append_2_21 (by decide) (fun h_ => absurd h_ (by decide)) (fun _ => ?_)
  refine x_aload_n dJ9_append_2_24 0 rfl rfl ?_
  refine x_get dJ9_append_2_25 vC_16 in_J10 hp1 0 (by decide) q352 rfl ?_
  refine x_aload_n dJ9_append_2_28 0 rfl rfl ?_
  refine x_dup dJ9_append_2_29 rfl ?_
  refine x_get dJ9_append_2_30 vC_16 in_J10 hp1 3 (by decide) q356 rfl ?_
  refine x_dup_x1 dJ9_append_2_33 rfl rfl ?_
  refine x_iconst (v := nI 1) dJ9_append_2_34 (by decide) ?_
  refine x_iadd dJ9_append_2_35 ?_
  refine x_top (x' := nI (t.length + 1)) (nI_add _ _) ?_
  refine x_put (fs' := [.ref b1, .int (nI 0), .int ml1, .int (nI (t.length + 1))]) dJ9_append_2_36 vC_16 in_J10 tyJ10_ok nmJ10 hp1 3 (by decide) q356 rfl rfl (rfl) (rfl) (Nat.le_of_ble_eq_true rfl) rfl (fun σ5 hc7 hu6 => ?_)
  have hbc1 := at_put hu6 hbc1 (cell_ne hp1 hbc1 rfl)
  refine x_iload_n dJ9_append_2_39 1 rfl rfl ?_
  refine x_i2b (v := nI c) dJ9_append_2_40 (byte_lt hc) ?_
  refine x_bast (N := N1) (j := t.length) (w := nI c) dJ9_append_2_41 hbc1 rfl (by omega) (by omega) (nar_b hc) (fun σ8 g8 f8 => ?_)
  refine x_goto (tgt := 75) dJ9_append_2_42 (by decide) ?_
  refine x_aload_n dJ9_append_2_75 0 rfl rfl ?_
  refine x_aret dJ9_append_2_76 rfl (by first | exact Or.inl ⟨_, rfl⟩ | exact Or.inr ⟨_, rfl⟩) (Or.inr ⟨_, rfl⟩) ⟨_, rfl, rfl, b1, N1, ⟨⟨ml1, at_put f8 (by rw [List.length_append]; exact hc7) hpb1⟩, ⟨_, g8, upd_byt hf1, upd_fit hc hby1⟩, okTl hch hc, by rw [List.length_append]; exact hm1, hN1⟩, fun r hr hrp hrb => ?_, hb1⟩
  have n1 : r ≠ b1 := by
    rcases hb1 with q | q
    · rw [q]; exact hrb
    · intro e; rw [e] at hr; exact hr q
  rw [f8 r n1, hu6 r hrp]; exact hfr1 r hr hrp
set_option maxHeartbeats 4000000 in
set_option maxRecDepth 100000 in
theorem con_J10_append_2 {l : Launch} {G : YG} {σ : AH} {p b N : Nat} {t : List Nat} {c : Nat} (hS : SB σ p b N t) (hc : c < 128) (hl : t.length < 150) : Con l yJ10_append_2 cJ10_append_2 2 (some (FieldType.object "java/lang/StringBuilder")) G 5 1 302 [.ref p, .int (nI c)] σ (PA fun z τ => z = p ∧ ∃ b' N', SB τ p b' N' (t ++ [c]) ∧ SK σ τ p b b') := by
  refine con_of (by decide) (Nat.le_of_ble_eq_true rfl) ?_
  refine x_locs (L' := [(0, .ref p), (1, .int (nI c))]) [0, 1] rfl ?_
  have hpb := hS.ne
  obtain ⟨⟨ml, hp⟩, ⟨f, hbc, hf, hby⟩, hch, htN, hN⟩ := id hS
  refine x_aload_n dJ10_append_2_0 0 rfl rfl ?_
  refine x_iload_n dJ10_append_2_1 1 rfl rfl ?_
  refine x_callSU dJ10_append_2_2 (con_J9_append_2 hS hc hl) (lw_SU q1513 q2266 q365 q1514 q97 q1515) (np := 1) (by decide +kernel) rfl vC_16 hp ⟨Nat.le_of_ble_eq_true rfl, Nat.le_of_ble_eq_true rfl⟩ (Nat.le_of_ble_eq_true rfl) rfl (Nat.le_refl _) (Nat.le_refl _) (rA fun z σ1 h1 => ?_) nA'
  refine x_pop dJ10_append_2_5 rfl ?_
  refine x_aload_n dJ10_append_2_6 0 rfl rfl ?_
  exact x_aret dJ10_append_2_7 rfl (by first | exact Or.inl ⟨_, rfl⟩ | exact Or.inr ⟨_, rfl⟩) (Or.inr ⟨_, rfl⟩) (⟨_, rfl, rfl, h1.2⟩)
theorem cpyS_byt {g h : Nat → Int32} {t t2 : List Nat} (hg : BytF g t) (hh : BytF h t2) : BytF (va_cpy h g 0 t.length t2.length) (t ++ t2) := fun j x hx => by
  rw [List.getElem?_append] at hx
  unfold va_cpy
  split at hx
  · rename_i hj
    rw [if_neg (by omega)]; exact hg j x hx
  · rename_i hj
    have hil := (List.getElem?_eq_some_iff.mp hx).1
    rw [if_pos (by omega), Nat.zero_add]; exact hh _ x hx
theorem cpyS_fit {g h : Nat → Int32} {N n m : Nat} (hg : ∀ j, j < N → fits .byte (.int (g j)) = true) (hh : ∀ j, j < m → fits .byte (.int (h j)) = true) : ∀ j, j < N → fits .byte (.int (va_cpy h g 0 n m j)) = true := fun j hj => by
  unfold va_cpy
  split
  · exact hh _ (by omega)
  · exact hg j hj
theorem BytF.fit {f : Nat → Int32} {t : List Nat} (h : BytF f t) (hc : ∀ x ∈ t, x < 128) : ∀ j, j < t.length → fits .byte (.int (f j)) = true := fun j hj => by
  obtain ⟨x, hx⟩ : ∃ x, t[j]? = some x := ⟨_, List.getElem?_eq_getElem hj⟩
  rw [h j x hx]
  exact fit_b (hc x (List.mem_of_getElem? hx))
theorem ok_app {t t2 : List Nat} (h : ∀ x ∈ t, x < 128) (h2 : ∀ x ∈ t2, x < 128) : ∀ x ∈ t ++ t2, x < 128 := fun x hx => (List.mem_append.mp hx).elim (h x) (h2 x)
theorem x_copyS {l : Launch} {y : MethodName} {cc : ByteArray} {nL : Nat} {ret : Option FieldType} {hh : List (Nat × Nat × Nat × Nat)} {G : YG} {R : Room} {Z : YE} {pc : Nat} {L : List (Nat × Value)} {rest : List Value} {σ : AH} {k n : Nat} {ix a b N dp : Nat} {t : List Nat} {g : Nat → Int32} (hd : decode cc pc = .ok (.invokestatic ix, 3)) (hl : Cond.methodLink y.cls ix arraycopyName ∈ lw_all) (hb : BytAt G σ b t) (ha : σ a = some (.inl (3, N, .inl g))) (h5 : dp + t.length ≤ N) (h7 : N < 1000) (hf : 1 ≤ R.frames ∧ 40 ≤ R.locals) (hr : (rest.map fun v => v.category).sum ≤ 8)
    (kk : ∀ (τ : AH) (h : Nat → Int32), BytF h t → τ a = some (.inl (3, N, .inl (va_cpy h g 0 dp t.length))) → (∀ q, q ≠ a → τ q = σ q) → X l y cc nL ret hh G R Z (pc + 3) L rest τ k n) : X l y cc nL ret hh G R Z pc L (.int (nI t.length) :: .int (nI dp) :: .ref a :: .int (nI 0) :: .ref b :: rest) σ k n := by
  obtain ⟨h0, ⟨i, rfl, h1⟩ | ⟨f, g2, g3⟩⟩ := hb
  · have hbf : BytF (fun j => (yByt.getD i []).getD j 0) t := fun j x hx => h1.2.2 j x hx
    refine x_copyK hd hl h1.1 ha (by rw [h1.2.1]; omega) h5 (by rw [h1.2.1]; omega) (by omega) (fun j hj => by rw [Nat.zero_add]; exact hbf.fit h0.2 j hj) hf hr (fun τ k1 k2 => kk τ _ hbf k1 k2)
  · exact x_copyB hd hl g2 ha (by omega) h5 (by omega) (by omega) (fun j hj => by rw [Nat.zero_add]; exact g3.fit h0.2 j hj) hf hr (fun τ k1 k2 => kk τ _ g3 k1 k2)
set_option maxHeartbeats 4000000 in
set_option maxRecDepth 100000 in
theorem con_J11_getBytes {l : Launch} {G : YG} {σ : AH} {q b N : Nat} {t t2 : List Nat} {g : Nat → Int32} (hq : StrAt G σ q t2) (hb : σ b = some (.inl (3, N, .inl g))) (hg : BytF g t) (hby : ∀ j, j < N → fits .byte (.int (g j)) = true) (hl : t.length + t2.length ≤ N) (hN : N < 1000) : Con l yJ11_getBytes cJ11_getBytes 4 none G 1 0 0 [.ref q, .ref b, .int (nI t.length), .int (nI 0)] σ (PV fun τ => (∃ g2, τ b = some (.inl (3, N, .inl g2)) ∧ BytF g2 (t ++ t2) ∧ ∀ j, j < N → fits .byte (.int (g2 j)) = true) ∧ ∀ r, r ≠ b → τ r = σ r) := by
  refine con_of (by decide) (Nat.le_of_ble_eq_true rfl) ?_
  refine x_locs (L' := [(0, .ref q), (1, .ref b), (2, .int (nI t.length)), (3, .int (nI 0))]) [0, 1, 2, 3] rfl ?_
  refine x_aload_n dJ11_getBytes_0 0 rfl rfl ?_
  refine x_callV dJ11_getBytes_1 (con_J11_coder hq) (lw_V q768 q769 q770 q99 q771) (np := 0) (by decide +kernel) rfl hq.rcv ⟨Nat.le_of_ble_eq_true rfl, Nat.le_of_ble_eq_true rfl⟩ (Nat.le_of_ble_eq_true rfl) rfl (by decide) (by decide) (rS ?_) nI'
  refine x_iload_n dJ11_getBytes_4 3 rfl rfl ?_
  refine x_icmp_ne (tgt := 28) dJ11_getBytes_5 (by decide) (fun h_ => absurd (rfl) h_) (fun _ => ?_)
  refine x_aload_n dJ11_getBytes_8 0 rfl rfl ?_
  refine x_sval dJ11_getBytes_9 hq q857 (fun b2 hb2 => ?_)
  refine x_iconst (v := nI 0) dJ11_getBytes_12 (by decide) ?_
  refine x_aload_n dJ11_getBytes_13 1 rfl rfl ?_
  refine x_iload_n dJ11_getBytes_14 2 rfl rfl ?_
  refine x_iload_n dJ11_getBytes_15 3 rfl rfl ?_
  refine x_ishl dJ11_getBytes_16 ?_
  refine x_top (x' := nI t.length) (Int32_shl0 _) ?_
  refine x_aload_n dJ11_getBytes_17 0 rfl rfl ?_
  refine x_sval dJ11_getBytes_18 hq q857 (fun b3 hb3 => ?_)
  refine x_slen dJ11_getBytes_21 hb3 ?_
  refine x_copyS (N := N) (g := g) (dp := t.length) dJ11_getBytes_22 q805 hb2 hb hl hN ⟨Nat.le_of_ble_eq_true rfl, Nat.le_of_ble_eq_true rfl⟩ (Nat.le_of_ble_eq_true rfl) (fun σ8 h8 e8 g8 f8 => ?_)
  refine x_goto (tgt := 43) dJ11_getBytes_25 (by decide) ?_
  exact x_vret dJ11_getBytes_43 rfl (⟨rfl, ⟨_, g8, cpyS_byt hg e8, cpyS_fit hby (e8.fit hq.1.2)⟩, f8⟩)
set_option maxHeartbeats 4000000 in
set_option maxRecDepth 100000 in
theorem con_J9_inflateIfNeededFor {l : Launch} {G : YG} {σ : AH} {p b N : Nat} {t : List Nat} {q : Nat} {t2 : List Nat} (hS : SB σ p b N t) (hq : StrAt G σ q t2) : Con l yJ9_inflateIfNeededFor cJ9_inflateIfNeededFor 2 none G 1 0 0 [.ref p, .ref q] σ (PV fun τ => τ = σ) := by
  refine con_of (by decide) (Nat.le_of_ble_eq_true rfl) ?_
  refine x_locs (L' := [(0, .ref p), (1, .ref q)]) [0, 1] rfl ?_
  have hpb := hS.ne
  obtain ⟨⟨ml, hp⟩, ⟨f, hbc, hf, hby⟩, hch, htN, hN⟩ := id hS
  refine x_gets (i := 0) (v := .int (nI 1)) dJ9_inflateIfNeededFor_0 q343 rfl ?_
  refine x_if_eq (tgt := 21) dJ9_inflateIfNeededFor_3 (by decide) (fun h_ => absurd h_ (by decide)) (fun _ => ?_)
  refine x_aload_n dJ9_inflateIfNeededFor_6 0 rfl rfl ?_
  refine x_get dJ9_inflateIfNeededFor_7 vC_16 in_J10 hp 1 (by decide) q353 rfl ?_
  refine x_aload_n dJ9_inflateIfNeededFor_10 1 rfl rfl ?_
  refine x_callV dJ9_inflateIfNeededFor_11 (con_J11_coder hq) (lw_V q781 q769 q770 q99 q771) (np := 0) (by decide +kernel) rfl hq.rcv ⟨Nat.le_of_ble_eq_true rfl, Nat.le_of_ble_eq_true rfl⟩ (Nat.le_of_ble_eq_true rfl) rfl (by decide) (by decide) (rS ?_) nI'
  refine x_icmp_eq (tgt := 21) dJ9_inflateIfNeededFor_14 (by decide) (fun _ => ?_) (fun h_ => absurd (rfl) h_)
  exact x_vret dJ9_inflateIfNeededFor_21 rfl (⟨rfl, rfl⟩)
set_option maxHeartbeats 4000000 in
set_option maxRecDepth 100000 in
theorem con_J9_putStringAt {l : Launch} {G : YG} {σ : AH} {p b N : Nat} {t : List Nat} {q : Nat} {t2 : List Nat} (hS : SB σ p b N t) (hq : StrAt G σ q t2) (hl : t.length + t2.length ≤ N) : Con l yJ9_putStringAt cJ9_putStringAt 3 none G 2 0 0 [.ref p, .int (nI t.length), .ref q] σ (PV fun τ => (∃ g2, τ b = some (.inl (3, N, .inl g2)) ∧ BytF g2 (t ++ t2) ∧ ∀ j, j < N → fits .byte (.int (g2 j)) = true) ∧ ∀ r, r ≠ b → τ r = σ r) := by
  refine con_of (by decide) (Nat.le_of_ble_eq_true rfl) ?_
  refine x_locs (L' := [(0, .ref p), (1, .int (nI t.length)), (2, .ref q)]) [0, 1, 2] rfl ?_
  have hpb := hS.ne
  obtain ⟨⟨ml, hp⟩, ⟨f, hbc, hf, hby⟩, hch, htN, hN⟩ := id hS
  refine x_aload_n dJ9_putStringAt_0 0 rfl rfl ?_
  refine x_aload_n dJ9_putStringAt_1 2 rfl rfl ?_
  refine x_callP dJ9_putStringAt_2 (con_J9_inflateIfNeededFor hS hq) q777 q2255 q778 q779 q97 q780 q736 rfl (np := 1) (by decide +kernel) rfl hS.rc ⟨Nat.le_of_ble_eq_true rfl, Nat.le_of_ble_eq_true rfl⟩ (Nat.le_of_ble_eq_true rfl) rfl (by decide) (by decide) (rV fun σ1 h1 => ?_) nV'
  subst h1
  refine x_aload_n dJ9_putStringAt_5 2 rfl rfl ?_
  refine x_aload_n dJ9_putStringAt_6 0 rfl rfl ?_
  refine x_get dJ9_putStringAt_7 vC_16 in_J10 hp 0 (by decide) q352 rfl ?_
  refine x_iload_n dJ9_putStringAt_10 1 rfl rfl ?_
  refine x_aload_n dJ9_putStringAt_11 0 rfl rfl ?_
  refine x_get dJ9_putStringAt_12 vC_16 in_J10 hp 1 (by decide) q353 rfl ?_
  refine x_callV dJ9_putStringAt_15 (con_J11_getBytes hq hbc hf hby hl (by omega)) (lw_V q801 q802 q803 q99 q804) (np := 3) (by decide +kernel) rfl hq.rcv ⟨Nat.le_of_ble_eq_true rfl, Nat.le_of_ble_eq_true rfl⟩ (Nat.le_of_ble_eq_true rfl) rfl (by decide) (by decide) (rV fun σ3 h2 => ?_) nV'
  exact x_vret dJ9_putStringAt_18 rfl (⟨rfl, h2⟩)
set_option maxHeartbeats 4000000 in
set_option maxRecDepth 100000 in
theorem con_J9_append {l : Launch} {G : YG} {σ : AH} {p b N : Nat} {t : List Nat} {q : Nat} {t2 : List Nat} (hS : SB σ p b N t) (hq : StrAt G σ q t2) (hqb : ∀ v h1 h2, σ q = some (.inr (17, [.ref v, .int 0, h1, h2])) → v ≠ b) (hl : t.length + t2.length ≤ 150) : Con l yJ9_append cJ9_append 3 (some (FieldType.object "java/lang/AbstractStringBuilder")) G 4 1 302 [.ref p, .ref q] σ (PA fun z τ => z = p ∧ ∃ b' N', SB τ p b' N' (t ++ t2) ∧ SK σ τ p b b') := by
  refine con_of (by decide) (Nat.le_of_ble_eq_true rfl) ?_
  refine x_locs (L' := [(0, .ref p), (1, .ref q)]) [0, 1] rfl ?_
  have hpb := hS.ne
  obtain ⟨⟨ml, hp⟩, ⟨f, hbc, hf, hby⟩, hch, htN, hN⟩ := id hS
  refine x_aload_n dJ9_append_0 1 rfl rfl ?_
  refine x_ifnonnull (tgt := 9) dJ9_append_1 (by decide) ?_
  refine x_aload_n dJ9_append_9 1 rfl rfl ?_
  refine x_callV dJ9_append_10 (con_J11_length hq) (lw_V q764 q765 q766 q99 q767) (np := 0) (by decide +kernel) rfl hq.rcv ⟨Nat.le_of_ble_eq_true rfl, Nat.le_of_ble_eq_true rfl⟩ (Nat.le_of_ble_eq_true rfl) rfl (Nat.zero_le _) (Nat.zero_le _) (rS ?_) nI'
  refine x_istore_n (i := 2) (L' := [(2, .int (nI t2.length)), (0, .ref p), (1, .ref q)]) dJ9_append_13 rfl (by decide) rfl ?_
  refine x_aload_n dJ9_append_14 1 rfl rfl ?_
  refine x_aload_n dJ9_append_15 1 rfl rfl ?_
  refine x_get dJ9_append_16 vC_16 in_J10 hp 3 (by decide) q356 rfl ?_
  refine x_iload_n dJ9_append_19 0 rfl rfl ?_
  refine x_iadd dJ9_append_20 ?_
  refine x_top (x' := nI (t.length + t2.length)) (nI_add _ _) ?_
  refine x_callP dJ9_append_21 (con_J9_ensureCapacityInternal hS hl) q713 q2252 q714 q715 q97 q716 q736 rfl (np := 1) (by decide +kernel) rfl hS.rc ⟨Nat.le_of_ble_eq_true rfl, Nat.le_of_ble_eq_true rfl⟩ (Nat.le_of_ble_eq_true rfl) rfl (Nat.le_refl _) (Nat.le_refl _) (rV fun σ2 h1 => ?_) nV'
  obtain ⟨b1, N1, hS1, hm1, hfr1, hb1⟩ := h1
  have hpb1 := hS1.ne
  obtain ⟨⟨ml1, hp1⟩, ⟨f1, hbc1, hf1, hby1⟩, -, htN1, hN1⟩ := id hS1
  have hq1 : StrAt G σ2 q t2 := SK.str ⟨fun r a c _ => hfr1 r a c, hb1⟩ hS hq hqb
  refine x_aload_n dJ9_append_24 1 rfl rfl ?_
  refine x_aload_n dJ9_append_25 1 rfl rfl ?_
  refine x_get dJ9_append_26 vC_16 in_J10 hp1 3 (by decide) q356 rfl ?_
  refine x_aload_n dJ9_append_29 2 rfl rfl ?_
  refine x_callP dJ9_append_30 (con_J9_putStringAt hS1 hq1 hm1) q773 q2254 q774 q775 q97 q776 q736 rfl (np := 2) (by decide +kernel) rfl hS1.rc ⟨Nat.le_of_ble_eq_true rfl, Nat.le_of_ble_eq_true rfl⟩ (Nat.le_of_ble_eq_true rfl) rfl (Nat.zero_le _) (Nat.zero_le _) (rV fun σ4 h2 => ?_) nV'
  obtain ⟨⟨g2, hg2, hg2b, hg2y⟩, hfr2⟩ := h2
  have hp2 := at_put hfr2 hp1 hpb1
  refine x_aload_n dJ9_append_33 1 rfl rfl ?_
  refine x_dup dJ9_append_34 rfl ?_
  refine x_get dJ9_append_35 vC_16 in_J10 hp2 3 (by decide) q356 rfl ?_
  refine x_iload_n dJ9_append_38 0 rfl rfl ?_
  refine x_iadd dJ9_append_39 ?_
  refine x_top (x' := nI (t.length + t2.length)) (nI_add _ _) ?_
  refine x_put (fs' := [.ref b1, .int (nI 0), .int ml1, .int (nI (t.length + t2.length))]) dJ9_append_40 vC_16 in_J10 tyJ10_ok nmJ10 hp2 3 (by decide) q356 rfl rfl (rfl) (rfl) (Nat.le_of_ble_eq_true rfl) rfl (fun σ6 hc8 hu7 => ?_)
  refine x_aload_n dJ9_append_43 1 rfl rfl ?_
  refine x_aret dJ9_append_44 rfl (by first | exact Or.inl ⟨_, rfl⟩ | exact Or.inr ⟨_, rfl⟩) (Or.inr ⟨_, rfl⟩) ⟨_, rfl, rfl, b1, N1, ⟨⟨ml1, by rw [List.length_append]; exact hc8⟩, ⟨_, at_put hu7 hg2 (fun e => hpb1 e.symm), hg2b, hg2y⟩, ok_app hch hq.1.2, by rw [List.length_append]; exact hm1, hN1⟩, fun r hr hrp hrb => ?_, hb1⟩
  have n1 : r ≠ b1 := by
    rcases hb1 with q | q
    · rw [q]; exact hrb
    · intro e; rw [e] at hr; exact hr q
  rw [hu7 r hrp, hfr2 r n1]; exact hfr1 r hr hrp
set_option maxHeartbeats 4000000 in
set_option maxRecDepth 100000 in
theorem con_J10_append {l : Launch} {G : YG} {σ : AH} {p b N : Nat} {t : List Nat} {q : Nat} {t2 : List Nat} (hS : SB σ p b N t) (hq : StrAt G σ q t2) (hqb : ∀ v h1 h2, σ q = some (.inr (17, [.ref v, .int 0, h1, h2])) → v ≠ b) (hl : t.length + t2.length ≤ 150) : Con l yJ10_append cJ10_append 2 (some (FieldType.object "java/lang/StringBuilder")) G 5 1 302 [.ref p, .ref q] σ (PA fun z τ => z = p ∧ ∃ b' N', SB τ p b' N' (t ++ t2) ∧ SK σ τ p b b') := by
  refine con_of (by decide) (Nat.le_of_ble_eq_true rfl) ?_
  refine x_locs (L' := [(0, .ref p), (1, .ref q)]) [0, 1] rfl ?_
  have hpb := hS.ne
  obtain ⟨⟨ml, hp⟩, ⟨f, hbc, hf, hby⟩, hch, htN, hN⟩ := id hS
  refine x_aload_n dJ10_append_0 0 rfl rfl ?_
  refine x_aload_n dJ10_append_1 1 rfl rfl ?_
  refine x_callSU dJ10_append_2 (con_J9_append hS hq hqb hl) (lw_SU q706 q2250 q365 q707 q97 q708) (np := 1) (by decide +kernel) rfl vC_16 hp ⟨Nat.le_of_ble_eq_true rfl, Nat.le_of_ble_eq_true rfl⟩ (Nat.le_of_ble_eq_true rfl) rfl (Nat.le_refl _) (Nat.le_refl _) (rA fun z σ1 h1 => ?_) nA'
  refine x_pop dJ10_append_5 rfl ?_
  refine x_aload_n dJ10_append_6 0 rfl rfl ?_
  exact x_aret dJ10_append_7 rfl (by first | exact Or.inl ⟨_, rfl⟩ | exact Or.inr ⟨_, rfl⟩) (Or.inr ⟨_, rfl⟩) (⟨_, rfl, rfl, h1.2⟩)
set_option maxHeartbeats 4000000 in
set_option maxRecDepth 100000 in
theorem con_J9_charAt {l : Launch} {G : YG} {σ : AH} {p b N : Nat} {t : List Nat} {i c : Nat} (hS : SB σ p b N t) (hi : t[i]? = some c) : Con l yJ9_charAt cJ9_charAt 5 (some FieldType.char) G 2 0 0 [.ref p, .int (nI i)] σ (PS σ (nI c)) := by
  refine con_of (by decide) (Nat.le_of_ble_eq_true rfl) ?_
  refine x_locs (L' := [(0, .ref p), (1, .int (nI i))]) [0, 1] rfl ?_
  have hpb := hS.ne
  obtain ⟨⟨ml, hp⟩, ⟨f, hbc, hf, hby⟩, hch, htN, hN⟩ := id hS
  have hlt := get_lt' hi
  have hc := hch c (List.mem_of_getElem? hi)
  refine x_aload_n dJ9_charAt_0 0 rfl rfl ?_
  refine x_get dJ9_charAt_1 vC_16 in_J10 hp 1 (by decide) q353 rfl ?_
  refine x_istore_n (i := 2) (L' := [(2, .int (nI 0)), (0, .ref p), (1, .int (nI i))]) dJ9_charAt_4 rfl (by decide) rfl ?_
  refine x_aload_n dJ9_charAt_5 1 rfl rfl ?_
  refine x_get dJ9_charAt_6 vC_16 in_J10 hp 0 (by decide) q352 rfl ?_
  refine x_astore_n (i := 3) (L' := [(3, .ref b), (2, .int (nI 0)), (0, .ref p), (1, .int (nI i))]) dJ9_charAt_9 rfl (by decide) rfl ?_
  refine x_aload_n dJ9_charAt_10 2 rfl rfl ?_
  refine x_get dJ9_charAt_11 vC_16 in_J10 hp 3 (by decide) q356 rfl ?_
  refine x_aload_n dJ9_charAt_14 0 rfl rfl ?_
  refine x_alen (N := 0) (q0 := 3) (v := nI N) dJ9_charAt_15 hbc rfl rfl ?_
  refine x_iload_n dJ9_charAt_16 1 rfl rfl ?_
  refine x_ishr dJ9_charAt_17 ?_
  refine x_top (x' := nI N) (Int32_shr0 _) ?_
  refine x_callS dJ9_charAt_18 (con_J6_min (x := t.length) (y := N) (by omega) (by omega)) (lw_S q1569 q271 q93 q272) (np := 2) (by decide +kernel) rfl ⟨Nat.le_of_ble_eq_true rfl, Nat.le_of_ble_eq_true rfl⟩ (Nat.le_of_ble_eq_true rfl) rfl (by decide) (by decide) (rS ?_) nI'
  refine x_top (x' := nI t.length) (congrArg nI (nminL (by omega))) ?_
  refine x_istore (i := 4) (L' := [(4, .int (nI t.length)), (3, .ref b), (2, .int (nI 0)), (0, .ref p), (1, .int (nI i))]) dJ9_charAt_21 (by decide) rfl ?_
  refine x_iload_n dJ9_charAt_23 4 rfl rfl ?_
  refine x_iload dJ9_charAt_24 0 rfl ?_
  refine x_callS dJ9_charAt_26 (con_J11_checkIndex (i := i) (n := t.length) hlt (by omega)) (lw_S q1570 q1526 q99 q1527) (np := 2) (by decide +kernel) rfl ⟨Nat.le_of_ble_eq_true rfl, Nat.le_of_ble_eq_true rfl⟩ (Nat.le_of_ble_eq_true rfl) rfl (by decide) (by decide) (rV fun σ2 h1 => ?_) nV'
  subst h1
  refine x_iload_n dJ9_charAt_29 2 rfl rfl ?_
  refine x_if_ne (tgt := 42) dJ9_charAt_30 (by decide) (fun h_ => absurd (rfl) h_) (fun _ => ?_)
  refine x_aload_n dJ9_charAt_33 1 rfl rfl ?_
  refine x_iload_n dJ9_charAt_34 4 rfl rfl ?_
  refine x_bald (N := N) (j := i) (v := nI c) dJ9_charAt_35 hbc (rfl) (by omega) (by omega) (hf i c hi) ?_
  refine x_sipush (v := nI 255) dJ9_charAt_36 (by decide) ?_
  refine x_iand dJ9_charAt_39 ?_
  refine x_i2c (v := nI c) dJ9_charAt_40 (ch_byte hc) ?_
  exact x_zret dJ9_charAt_41 rfl (ch_fit hc) (pS)
set_option maxHeartbeats 4000000 in
set_option maxRecDepth 100000 in
theorem con_J10_charAt {l : Launch} {G : YG} {σ : AH} {p b N : Nat} {t : List Nat} {i c : Nat} (hS : SB σ p b N t) (hi : t[i]? = some c) : Con l yJ10_charAt cJ10_charAt 2 (some FieldType.char) G 3 0 0 [.ref p, .int (nI i)] σ (PS σ (nI c)) := by
  refine con_of (by decide) (Nat.le_of_ble_eq_true rfl) ?_
  refine x_locs (L' := [(0, .ref p), (1, .int (nI i))]) [0, 1] rfl ?_
  have hpb := hS.ne
  obtain ⟨⟨ml, hp⟩, ⟨f, hbc, hf, hby⟩, hch, htN, hN⟩ := id hS
  have hc := hch c (List.mem_of_getElem? hi)
  refine x_aload_n dJ10_charAt_0 0 rfl rfl ?_
  refine x_iload_n dJ10_charAt_1 1 rfl rfl ?_
  refine x_callSU dJ10_charAt_2 (con_J9_charAt hS hi) (lw_SU q1566 q2267 q365 q1567 q97 q1568) (np := 1) (by decide +kernel) rfl vC_16 hp ⟨Nat.le_of_ble_eq_true rfl, Nat.le_of_ble_eq_true rfl⟩ (Nat.le_of_ble_eq_true rfl) rfl (by decide) (by decide) (rS ?_) nI'
  exact x_zret dJ10_charAt_5 rfl (ch_fit hc) (pS)
set_option maxHeartbeats 4000000 in
set_option maxRecDepth 100000 in
theorem con_J9_ensure0 {l : Launch} {G : YG} {σ : AH} {p b N : Nat} {t : List Nat} (hS : SB σ p b N t) : Con l yJ9_ensureCapacityInternal cJ9_ensureCapacityInternal 3 none G 3 0 0 [.ref p, .int (nI 0)] σ (PV fun τ => τ = σ) := by
  refine con_of (by decide) (Nat.le_of_ble_eq_true rfl) ?_
  refine x_locs (L' := [(0, .ref p), (1, .int (nI 0))]) [0, 1] rfl ?_
  have hpb := hS.ne
  obtain ⟨⟨ml, hp⟩, ⟨f, hbc, hf, hby⟩, hch, htN, hN⟩ := id hS
  refine x_aload_n dJ9_ensureCapacityInternal_0 0 rfl rfl ?_
  refine x_get dJ9_ensureCapacityInternal_1 vC_16 in_J10 hp 0 (by decide) q352 rfl ?_
  refine x_alen (N := 0) (q0 := 3) (v := nI N) dJ9_ensureCapacityInternal_4 hbc rfl rfl ?_
  refine x_aload_n dJ9_ensureCapacityInternal_5 0 rfl rfl ?_
  refine x_get dJ9_ensureCapacityInternal_6 vC_16 in_J10 hp 1 (by decide) q353 rfl ?_
  refine x_ishr dJ9_ensureCapacityInternal_9 ?_
  refine x_top (x' := nI N) (Int32_shr0 _) ?_
  refine x_istore_n (i := 2) (L' := [(2, .int (nI N)), (0, .ref p), (1, .int (nI 0))]) dJ9_ensureCapacityInternal_10 rfl (by decide) rfl ?_
  refine x_iload_n dJ9_ensureCapacityInternal_11 2 rfl rfl ?_
  refine x_iload_n dJ9_ensureCapacityInternal_12 0 rfl rfl ?_
  refine x_isub dJ9_ensureCapacityInternal_13 ?_
  refine x_if_le (tgt := 38) dJ9_ensureCapacityInternal_14 (by decide) (fun _ => ?_) (fun h_ => absurd ((sb_le (by decide) (by omega)).mpr (Nat.zero_le _)) h_)
  exact x_vret dJ9_ensureCapacityInternal_38 rfl (⟨rfl, rfl⟩)
set_option maxHeartbeats 4000000 in
set_option maxRecDepth 100000 in
theorem con_J9_setLength {l : Launch} {G : YG} {σ : AH} {p b N : Nat} {t : List Nat} (hS : SB σ p b N t) : Con l yJ9_setLength cJ9_setLength 2 none G 4 1 302 [.ref p, .int (nI 0)] σ (PV fun τ => SB τ p b N [] ∧ ∀ r, r ≠ p → τ r = σ r) := by
  refine con_of (by decide) (Nat.le_of_ble_eq_true rfl) ?_
  refine x_locs (L' := [(0, .ref p), (1, .int (nI 0))]) [0, 1] rfl ?_
  have hpb := hS.ne
  obtain ⟨⟨ml, hp⟩, ⟨f, hbc, hf, hby⟩, hch, htN, hN⟩ := id hS
  refine x_iload_n dJ9_setLength_0 1 rfl rfl ?_
  refine x_if_ge (tgt := 13) dJ9_setLength_1 (by decide) (fun _ => ?_) (fun h_ => absurd (by decide) h_)
  refine x_aload_n dJ9_setLength_13 0 rfl rfl ?_
  refine x_iload_n dJ9_setLength_14 1 rfl rfl ?_
  refine x_callP dJ9_setLength_15 (con_J9_ensure0 hS) q713 q2252 q714 q715 q97 q716 q736 rfl (np := 1) (by decide +kernel) rfl hS.rc ⟨Nat.le_of_ble_eq_true rfl, Nat.le_of_ble_eq_true rfl⟩ (Nat.le_of_ble_eq_true rfl) rfl (Nat.zero_le _) (Nat.zero_le _) (rV fun σ1 h1 => ?_) nV'
  subst h1
  refine x_aload_n dJ9_setLength_18 0 rfl rfl ?_
  refine x_get dJ9_setLength_19 vC_16 in_J10 hp 3 (by decide) q356 rfl ?_
  refine x_iload_n dJ9_setLength_22 1 rfl rfl ?_
  refine x_icmp_ge (tgt := 63) dJ9_setLength_23 (by decide) (fun _ => ?_) (fun h_ => absurd ((nI_leI (by decide) (by omega)).mpr (Nat.zero_le _)) h_)
  refine x_aload_n dJ9_setLength_63 0 rfl rfl ?_
  refine x_get dJ9_setLength_64 vC_16 in_J10 hp 3 (by decide) q356 rfl ?_
  refine x_iload_n dJ9_setLength_67 1 rfl rfl ?_
  refine x_icmp_le (tgt := 76) dJ9_setLength_68 (by decide) (fun c1 => ?_) (fun c1 => ?_)
  · refine x_aload_n dJ9_setLength_76 0 rfl rfl ?_
    refine x_iload_n dJ9_setLength_77 1 rfl rfl ?_
    refine x_put (fs' := [.ref b, .int (nI 0), .int ml, .int (nI 0)]) dJ9_setLength_78 vC_16 in_J10 tyJ10_ok nmJ10 hp 3 (by decide) q356 rfl rfl (rfl) (rfl) (Nat.le_of_ble_eq_true rfl) rfl (fun σ3 hc5 hu4 => ?_)
    have hbc := at_put hu4 hbc (cell_ne hp hbc rfl)
    exact x_vret dJ9_setLength_81 rfl ⟨rfl, ⟨⟨_, hc5⟩, ⟨f, hbc, (fun j x hx => by cases hx), hby⟩, (fun x hx => by cases hx), Nat.zero_le _, hN⟩, fun r hr => (hu4 r hr)⟩
  · refine x_aload_n dJ9_setLength_71 0 rfl rfl ?_
    refine x_iconst (v := nI 1) dJ9_setLength_72 (by decide) ?_
    refine x_put (fs' := [.ref b, .int (nI 0), .int (nI 1), .int (nI t.length)]) dJ9_setLength_73 vC_16 in_J10 tyJ10_ok nmJ10 hp 2 (by decide) q354 rfl rfl (rfl) (rfl) (Nat.le_of_ble_eq_true rfl) rfl (fun σ6 hc8 hu7 => ?_)
    have hbc := at_put hu7 hbc (cell_ne hp hbc rfl)
    refine x_aload_n dJ9_setLength_76 0 rfl rfl ?_
    refine x_iload_n dJ9_setLength_77 1 rfl rfl ?_
    refine x_put (fs' := [.ref b, .int (nI 0), .int (nI 1), .int (nI 0)]) dJ9_setLength_78 vC_16 in_J10 tyJ10_ok nmJ10 hc8 3 (by decide) q356 rfl rfl (rfl) (rfl) (Nat.le_of_ble_eq_true rfl) rfl (fun σ9 hc11 hu10 => ?_)
    have hbc := at_put hu10 hbc (cell_ne hc8 hbc rfl)
    exact x_vret dJ9_setLength_81 rfl ⟨rfl, ⟨⟨_, hc11⟩, ⟨f, hbc, (fun j x hx => by cases hx), hby⟩, (fun x hx => by cases hx), Nat.zero_le _, hN⟩, fun r hr => (hu10 r hr).trans (hu7 r hr)⟩
set_option maxHeartbeats 4000000 in
set_option maxRecDepth 100000 in
theorem con_J10_setLength {l : Launch} {G : YG} {σ : AH} {p b N : Nat} {t : List Nat} (hS : SB σ p b N t) : Con l yJ10_setLength cJ10_setLength 2 none G 5 1 302 [.ref p, .int (nI 0)] σ (PV fun τ => SB τ p b N [] ∧ ∀ r, r ≠ p → τ r = σ r) := by
  refine con_of (by decide) (Nat.le_of_ble_eq_true rfl) ?_
  refine x_locs (L' := [(0, .ref p), (1, .int (nI 0))]) [0, 1] rfl ?_
  have hpb := hS.ne
  obtain ⟨⟨ml, hp⟩, ⟨f, hbc, hf, hby⟩, hch, htN, hN⟩ := id hS
  refine x_aload_n dJ10_setLength_0 0 rfl rfl ?_
  refine x_iload_n dJ10_setLength_1 1 rfl rfl ?_
  refine x_callSU dJ10_setLength_2 (con_J9_setLength hS) (lw_SU q1719 q2268 q365 q1720 q97 q1721) (np := 1) (by decide +kernel) rfl vC_16 hp ⟨Nat.le_of_ble_eq_true rfl, Nat.le_of_ble_eq_true rfl⟩ (Nat.le_of_ble_eq_true rfl) rfl (Nat.le_refl _) (Nat.le_refl _) (rV fun σ1 h1 => ?_) nV'
  exact x_vret dJ10_setLength_5 rfl (⟨rfl, h1⟩)
