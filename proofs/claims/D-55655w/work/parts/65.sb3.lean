set_option maxRecDepth 100000
theorem x_castB {l : Launch} {y : MethodName} {cc : ByteArray} {nL : Nat} {ret : Option FieldType} {hh : List (Nat × Nat × Nat × Nat)} {G : YG} {R : Room} {Z : YE} {pc : Nat} {L : List (Nat × Value)} {rest : List Value} {σ : AH} {k n : Nat} {ix a N : Nat} {f : Nat → Int32} (hd : decode cc pc = .ok (.checkcast ix, 3)) (hl : Cond.classLink y.cls ix "[B" ∈ lw_all) (ha : σ a = some (.inl (3, N, .inl f))) (kk : X l y cc nL ret hh G R Z (pc + 3) L (.ref a :: rest) σ k n) : X l y cc nL ret hh G R Z pc L (.ref a :: rest) σ k n := by
  intro p e s m args below meth c H locs cells slots ls hB hR hS h e1 e2
  have hG : Glob G s := hB.2.2.2.2.2.2.2.2.2
  obtain ⟨ws, hm, hP, hD⟩ := id hR
  obtain ⟨i, hi⟩ := rep_at (hm _ _ ha)
  exact va_castA hB.1 hB.2.1 hB.2.2.2.2.2.1 (hB.2.2.2.2.2.2.2.1 _ hl) hP i hi (hG.1.2 3 (gA G 3, .byte) rfl).2 hd (kk p e s m args below meth c H locs cells slots ls hB hR hS h e1 e2)
theorem ng10 {n : Nat} (h : n < 100) : (-(nI n) ≤ (-10)) ↔ 10 ≤ n := (by decide +kernel : ∀ n, n < 100 → ((-(nI n) ≤ (-10)) ↔ 10 ≤ n)) n h
theorem ng100 {n : Nat} (h : n < 100) : ¬ (-(nI n) ≤ (-100)) := (by decide +kernel : ∀ n, n < 100 → ¬ (-(nI n) ≤ (-100))) n h
theorem ng100' {n : Nat} (h : n < 100) : (-100 : Int32) < -(nI n) := (by decide +kernel : ∀ n, n < 100 → (-100 : Int32) < -(nI n)) n h
theorem ng9 {n : Nat} (h : n < 100) : ((-9) ≤ -(nI n)) ↔ n < 10 := (by decide +kernel : ∀ n, n < 100 → (((-9) ≤ -(nI n)) ↔ n < 10)) n h
theorem numL_1 {n : Nat} (h : n < 10) : numL n = [48 + n] := by unfold numL; rw [if_neg (by omega), Nat.mod_eq_of_lt h]; rfl
theorem numL_2 {n : Nat} (h : 10 ≤ n) : numL n = [48 + n / 10, 48 + n % 10] := by unfold numL; rw [if_pos (by omega)]; rfl
theorem numL_lt {n : Nat} (h : n < 100) : ∀ x ∈ numL n, x < 128 := fun x hx => by
  by_cases e : n < 10
  · rw [numL_1 e] at hx
    rcases List.mem_cons.mp hx with q | q
    · omega
    · cases q
  · rw [numL_2 (by omega)] at hx
    rcases List.mem_cons.mp hx with q | q
    · omega
    · rcases List.mem_cons.mp q with q | q
      · omega
      · cases q
set_option maxHeartbeats 4000000 in
set_option maxRecDepth 100000 in
theorem con_J20_stringSize {l : Launch} {G : YG} {σ : AH} {n : Nat} (hn : n < 100) : Con l yJ20_stringSize cJ20_stringSize 4 (some FieldType.int) G 0 0 0 [.int (nI n)] σ (PS σ (nI (numL n).length)) := by
  refine con_of (by decide) (Nat.le_of_ble_eq_true rfl) ?_
  refine x_locs (L' := [(0, .int (nI n))]) [0] rfl ?_
  refine x_iconst (v := nI 1) dJ20_stringSize_0 (by decide) ?_
  refine x_istore_n (i := 1) (L' := [(1, .int (nI 1)), (0, .int (nI n))]) dJ20_stringSize_1 rfl (by decide) rfl ?_
  refine x_iload_n dJ20_stringSize_2 1 rfl rfl ?_
  refine x_if_lt (tgt := 11) dJ20_stringSize_3 (by decide) (fun h_ => absurd h_ (nI_pos (by omega))) (fun _ => ?_)
  refine x_iconst (v := nI 0) dJ20_stringSize_6 (by decide) ?_
  refine x_istore_n (i := 1) (L' := [(1, .int (nI 0)), (0, .int (nI n))]) dJ20_stringSize_7 rfl (by decide) rfl ?_
  refine x_iload_n dJ20_stringSize_8 1 rfl rfl ?_
  refine x_ineg dJ20_stringSize_9 ?_
  refine x_istore_n (i := 0) (L' := [(0, .int (-(nI n))), (1, .int (nI 0))]) dJ20_stringSize_10 rfl (by decide) rfl ?_
  refine x_bipush (v := (-10)) dJ20_stringSize_11 (by decide) ?_
  refine x_istore_n (i := 2) (L' := [(2, .int (-10)), (0, .int (-(nI n))), (1, .int (nI 0))]) dJ20_stringSize_13 rfl (by decide) rfl ?_
  refine x_iconst (v := nI 1) dJ20_stringSize_14 (by decide) ?_
  refine x_istore_n (i := 3) (L' := [(3, .int (nI 1)), (2, .int (-10)), (0, .int (-(nI n))), (1, .int (nI 0))]) dJ20_stringSize_15 rfl (by decide) rfl ?_
  refine x_iload_n dJ20_stringSize_16 0 rfl rfl ?_
  refine x_bipush (v := nI 10) dJ20_stringSize_17 (by decide) ?_
  refine x_icmp_ge (tgt := 42) dJ20_stringSize_19 (by decide) (fun h_ => absurd h_ (by decide)) (fun _ => ?_)
  refine x_iload_n dJ20_stringSize_22 2 rfl rfl ?_
  refine x_iload_n dJ20_stringSize_23 1 rfl rfl ?_
  refine x_icmp_le (tgt := 31) dJ20_stringSize_24 (by decide) (fun c1 => ?_) (fun c1 => ?_)
  · have c1 := (ng10 hn).mp c1
    refine x_bipush (v := nI 10) dJ20_stringSize_31 (by decide) ?_
    refine x_iload_n dJ20_stringSize_33 1 rfl rfl ?_
    refine x_imul dJ20_stringSize_34 ?_
    refine x_top (x' := (-100)) (by decide) ?_
    refine x_istore_n (i := 2) (L' := [(2, .int (-100)), (3, .int (nI 1)), (0, .int (-(nI n))), (1, .int (nI 0))]) dJ20_stringSize_35 rfl (by decide) rfl ?_
    refine x_iinc (i := 3) (q := 1) (v := nI (1 + 1)) (L' := [(3, .int (nI (1 + 1))), (2, .int (-100)), (0, .int (-(nI n))), (1, .int (nI 0))]) dJ20_stringSize_36 rfl (nI_1 _) (by decide) rfl ?_
    refine x_goto (tgt := 16) dJ20_stringSize_39 (by decide) ?_
    refine x_iload_n dJ20_stringSize_16 0 rfl rfl ?_
    refine x_bipush (v := nI 10) dJ20_stringSize_17 (by decide) ?_
    refine x_icmp_ge (tgt := 42) dJ20_stringSize_19 (by decide) (fun h_ => absurd h_ (by decide)) (fun _ => ?_)
    refine x_iload_n dJ20_stringSize_22 2 rfl rfl ?_
    refine x_iload_n dJ20_stringSize_23 1 rfl rfl ?_
    refine x_icmp_le (tgt := 31) dJ20_stringSize_24 (by decide) (fun h_ => absurd h_ (ng100 hn)) (fun _ => ?_)
    refine x_iload_n dJ20_stringSize_27 0 rfl rfl ?_
    refine x_iload_n dJ20_stringSize_28 3 rfl rfl ?_
    refine x_iadd dJ20_stringSize_29 ?_
    refine x_top (x' := nI (1 + 1 + 0)) (nI_add _ _) ?_
    exact x_iret dJ20_stringSize_30 rfl (pS' (by rw [numL_2 c1]; rfl))
  · have c1 : n < 10 := by have : ¬ 10 ≤ n := fun z => c1 ((ng10 hn).mpr z); omega
    refine x_iload_n dJ20_stringSize_27 0 rfl rfl ?_
    refine x_iload_n dJ20_stringSize_28 3 rfl rfl ?_
    refine x_iadd dJ20_stringSize_29 ?_
    refine x_top (x' := nI (1 + 0)) (nI_add _ _) ?_
    exact x_iret dJ20_stringSize_30 rfl (pS' (by rw [numL_1 c1]; rfl))
theorem two_byt {f : Nat → Int32} {t : List Nat} {c d : Nat} (h : BytF f t) : BytF (upd (upd f (t.length + 1) (nI d)) t.length (nI c)) (t ++ [c, d]) := fun j x hx => by
  rw [List.getElem?_append] at hx
  split at hx
  · rename_i hj
    rw [pk_un (by omega), pk_un (by omega)]; exact h j x hx
  · rename_i hj
    have hil := (List.getElem?_eq_some_iff.mp hx).1
    have hie : j = t.length ∨ j = t.length + 1 := by simp at hil; omega
    rcases hie with e | e
    · subst e
      rw [Nat.sub_self] at hx
      cases hx
      exact pk_us
    · subst e
      rw [show t.length + 1 - t.length = 1 by omega] at hx
      cases hx
      rw [pk_un (by omega)]; exact pk_us
set_option maxHeartbeats 4000000 in
set_option maxRecDepth 100000 in
theorem con_J20_getChars1 {l : Launch} {G : YG} {σ : AH} {n b N : Nat} {t : List Nat} {g : Nat → Int32} (hb : σ b = some (.inl (3, N, .inl g))) (hg : BytF g t) (hby : ∀ j, j < N → fits .byte (.int (g j)) = true) (hl : t.length + 1 ≤ N) (hN : N < 1000) (hn : n < 10) : Con l yJ20_getChars cJ20_getChars 7 (some FieldType.int) G 0 0 0 [.int (nI n), .int (nI (t.length + 1)), .ref b] σ (PI fun z τ => (∃ g2, τ b = some (.inl (3, N, .inl g2)) ∧ BytF g2 (t ++ numL n) ∧ ∀ j, j < N → fits .byte (.int (g2 j)) = true) ∧ ∀ r, r ≠ b → τ r = σ r) := by
  refine con_of (by decide) (Nat.le_of_ble_eq_true rfl) ?_
  refine x_locs (L' := [(0, .int (nI n)), (1, .int (nI (t.length + 1))), (2, .ref b)]) [0, 1, 2] rfl ?_
  have h100 : n < 100 := by omega
  refine x_iload_n dJ20_getChars_0 1 rfl rfl ?_
  refine x_istore (i := 5) (L' := [(5, .int (nI (t.length + 1))), (0, .int (nI n)), (1, .int (nI (t.length + 1))), (2, .ref b)]) dJ20_getChars_1 (by decide) rfl ?_
  refine x_iload_n dJ20_getChars_3 1 rfl rfl ?_
  refine x_if_ge (tgt := 11) dJ20_getChars_4 (by decide) (fun _ => ?_) (fun h_ => absurd (nI_pos' (by omega)) h_)
  refine x_iconst (v := nI 0) dJ20_getChars_11 (by decide) ?_
  refine x_istore (i := 6) (L' := [(6, .int (nI 0)), (5, .int (nI (t.length + 1))), (0, .int (nI n)), (1, .int (nI (t.length + 1))), (2, .ref b)]) dJ20_getChars_12 (by decide) rfl ?_
  refine x_iload dJ20_getChars_14 0 rfl ?_
  refine x_if_ne (tgt := 22) dJ20_getChars_16 (by decide) (fun h_ => absurd (by decide) h_) (fun _ => ?_)
  refine x_iload_n dJ20_getChars_19 2 rfl rfl ?_
  refine x_ineg dJ20_getChars_20 ?_
  refine x_istore_n (i := 0) (L' := [(0, .int (-(nI n))), (6, .int (nI 0)), (5, .int (nI (t.length + 1))), (1, .int (nI (t.length + 1))), (2, .ref b)]) dJ20_getChars_21 rfl (by decide) rfl ?_
  refine x_iload_n dJ20_getChars_22 0 rfl rfl ?_
  refine x_bipush (v := (-100)) dJ20_getChars_23 (by decide) ?_
  refine x_icmp_gt (tgt := 72) dJ20_getChars_25 (by decide) (fun _ => ?_) (fun h_ => absurd (ng100' h100) h_)
  refine x_aload_n dJ20_getChars_72 4 rfl rfl ?_
  refine x_iinc (i := 5) (q := 2) (v := nI t.length) (L' := [(5, .int (nI t.length)), (0, .int (-(nI n))), (6, .int (nI 0)), (1, .int (nI (t.length + 1))), (2, .ref b)]) dJ20_getChars_73 rfl (pk_m1 _) (by decide) rfl ?_
  refine x_iload dJ20_getChars_76 0 rfl ?_
  refine x_gets (i := 3) (v := .ref (gc G 21)) dJ20_getChars_78 q1758 rfl ?_
  refine x_iload_n dJ20_getChars_81 1 rfl rfl ?_
  refine x_ineg dJ20_getChars_82 ?_
  refine x_top (x' := nI n) (Int32.neg_neg) ?_
  refine x_tbD (j := n) (v := nI (48 + n % 10)) dJ20_getChars_83 rfl (by omega) rfl ?_
  refine x_bast (N := N) (j := t.length) (w := nI (48 + n % 10)) dJ20_getChars_84 hb rfl (by omega) (by omega) (nar_b (by omega)) (fun σ8 g8 f8 => ?_)
  refine x_iload_n dJ20_getChars_85 1 rfl rfl ?_
  refine x_bipush (v := (-9)) dJ20_getChars_86 (by decide) ?_
  refine x_icmp_ge (tgt := 104) dJ20_getChars_88 (by decide) (fun _ => ?_) (fun h_ => absurd ((ng9 h100).mpr hn) h_)
  refine x_iload dJ20_getChars_104 2 rfl ?_
  refine x_if_eq (tgt := 118) dJ20_getChars_106 (by decide) (fun _ => ?_) (fun h_ => absurd (rfl) h_)
  refine x_iload dJ20_getChars_118 0 rfl ?_
  exact x_iret dJ20_getChars_120 rfl (⟨_, rfl, ⟨_, g8, by have e := upd_byt (c := 48 + n % 10) hg; rw [numL_1 hn]; rw [Nat.mod_eq_of_lt hn] at e ⊢; exact e, upd_fit (by omega) hby⟩, f8⟩)
set_option maxHeartbeats 4000000 in
set_option maxRecDepth 100000 in
theorem con_J20_getChars2 {l : Launch} {G : YG} {σ : AH} {n b N : Nat} {t : List Nat} {g : Nat → Int32} (hb : σ b = some (.inl (3, N, .inl g))) (hg : BytF g t) (hby : ∀ j, j < N → fits .byte (.int (g j)) = true) (hl : t.length + 1 + 1 ≤ N) (hN : N < 1000) (hn : n < 100) (h10 : 10 ≤ n) : Con l yJ20_getChars cJ20_getChars 7 (some FieldType.int) G 0 0 0 [.int (nI n), .int (nI (t.length + 1 + 1)), .ref b] σ (PI fun z τ => (∃ g2, τ b = some (.inl (3, N, .inl g2)) ∧ BytF g2 (t ++ numL n) ∧ ∀ j, j < N → fits .byte (.int (g2 j)) = true) ∧ ∀ r, r ≠ b → τ r = σ r) := by
  refine con_of (by decide) (Nat.le_of_ble_eq_true rfl) ?_
  refine x_locs (L' := [(0, .int (nI n)), (1, .int (nI (t.length + 1 + 1))), (2, .ref b)]) [0, 1, 2] rfl ?_
  have h100 : n < 100 := by omega
  refine x_iload_n dJ20_getChars_0 1 rfl rfl ?_
  refine x_istore (i := 5) (L' := [(5, .int (nI (t.length + 1 + 1))), (0, .int (nI n)), (1, .int (nI (t.length + 1 + 1))), (2, .ref b)]) dJ20_getChars_1 (by decide) rfl ?_
  refine x_iload_n dJ20_getChars_3 1 rfl rfl ?_
  refine x_if_ge (tgt := 11) dJ20_getChars_4 (by decide) (fun _ => ?_) (fun h_ => absurd (nI_pos' (by omega)) h_)
  refine x_iconst (v := nI 0) dJ20_getChars_11 (by decide) ?_
  refine x_istore (i := 6) (L' := [(6, .int (nI 0)), (5, .int (nI (t.length + 1 + 1))), (0, .int (nI n)), (1, .int (nI (t.length + 1 + 1))), (2, .ref b)]) dJ20_getChars_12 (by decide) rfl ?_
  refine x_iload dJ20_getChars_14 0 rfl ?_
  refine x_if_ne (tgt := 22) dJ20_getChars_16 (by decide) (fun h_ => absurd (by decide) h_) (fun _ => ?_)
  refine x_iload_n dJ20_getChars_19 2 rfl rfl ?_
  refine x_ineg dJ20_getChars_20 ?_
  refine x_istore_n (i := 0) (L' := [(0, .int (-(nI n))), (6, .int (nI 0)), (5, .int (nI (t.length + 1 + 1))), (1, .int (nI (t.length + 1 + 1))), (2, .ref b)]) dJ20_getChars_21 rfl (by decide) rfl ?_
  refine x_iload_n dJ20_getChars_22 0 rfl rfl ?_
  refine x_bipush (v := (-100)) dJ20_getChars_23 (by decide) ?_
  refine x_icmp_gt (tgt := 72) dJ20_getChars_25 (by decide) (fun _ => ?_) (fun h_ => absurd (ng100' h100) h_)
  refine x_aload_n dJ20_getChars_72 4 rfl rfl ?_
  refine x_iinc (i := 5) (q := 2) (v := nI (t.length + 1)) (L' := [(5, .int (nI (t.length + 1))), (0, .int (-(nI n))), (6, .int (nI 0)), (1, .int (nI (t.length + 1 + 1))), (2, .ref b)]) dJ20_getChars_73 rfl (pk_m1 _) (by decide) rfl ?_
  refine x_iload dJ20_getChars_76 0 rfl ?_
  refine x_gets (i := 3) (v := .ref (gc G 21)) dJ20_getChars_78 q1758 rfl ?_
  refine x_iload_n dJ20_getChars_81 1 rfl rfl ?_
  refine x_ineg dJ20_getChars_82 ?_
  refine x_top (x' := nI n) (Int32.neg_neg) ?_
  refine x_tbD (j := n) (v := nI (48 + n % 10)) dJ20_getChars_83 rfl (by omega) rfl ?_
  refine x_bast (N := N) (j := t.length + 1) (w := nI (48 + n % 10)) dJ20_getChars_84 hb rfl (by omega) (by omega) (nar_b (by omega)) (fun σ8 g8 f8 => ?_)
  refine x_iload_n dJ20_getChars_85 1 rfl rfl ?_
  refine x_bipush (v := (-9)) dJ20_getChars_86 (by decide) ?_
  refine x_icmp_ge (tgt := 104) dJ20_getChars_88 (by decide) (fun h_ => absurd h_ (fun z => absurd ((ng9 h100).mp z) (by omega))) (fun _ => ?_)
  refine x_aload_n dJ20_getChars_91 4 rfl rfl ?_
  refine x_iinc (i := 5) (q := 0) (v := nI t.length) (L' := [(5, .int (nI t.length)), (0, .int (-(nI n))), (6, .int (nI 0)), (1, .int (nI (t.length + 1 + 1))), (2, .ref b)]) dJ20_getChars_92 rfl (pk_m1 _) (by decide) rfl ?_
  refine x_iload dJ20_getChars_95 0 rfl ?_
  refine x_gets (i := 4) (v := .ref (gc G 22)) dJ20_getChars_97 q1760 rfl ?_
  refine x_iload_n dJ20_getChars_100 1 rfl rfl ?_
  refine x_ineg dJ20_getChars_101 ?_
  refine x_top (x' := nI n) (Int32.neg_neg) ?_
  refine x_tbT (j := n) (v := nI (48 + n / 10)) dJ20_getChars_102 rfl (by omega) rfl ?_
  refine x_bast (N := N) (j := t.length) (w := nI (48 + n / 10)) dJ20_getChars_103 g8 rfl (by omega) (by omega) (nar_b (by omega)) (fun σ9 g9 f9 => ?_)
  refine x_iload dJ20_getChars_104 2 rfl ?_
  refine x_if_eq (tgt := 118) dJ20_getChars_106 (by decide) (fun _ => ?_) (fun h_ => absurd (rfl) h_)
  refine x_iload dJ20_getChars_118 0 rfl ?_
  exact x_iret dJ20_getChars_120 rfl (⟨_, rfl, ⟨_, g9, by rw [numL_2 h10]; exact two_byt hg, upd_fit (by omega) (upd_fit (by omega) hby)⟩, fun r hr => (f9 r hr).trans (f8 r hr)⟩)
set_option maxHeartbeats 4000000 in
set_option maxRecDepth 100000 in
theorem con_J9_append_3 {l : Launch} {G : YG} {σ : AH} {p b N : Nat} {t : List Nat} {n : Nat} (hS : SB σ p b N t) (hn : n < 100) (hl : t.length < 148) : Con l yJ9_append_3 cJ9_append_3 4 (some (FieldType.object "java/lang/AbstractStringBuilder")) G 4 1 302 [.ref p, .int (nI n)] σ (PA fun z τ => z = p ∧ ∃ b' N', SB τ p b' N' (t ++ numL n) ∧ SK σ τ p b b') := by
  refine con_of (by decide) (Nat.le_of_ble_eq_true rfl) ?_
  refine x_locs (L' := [(0, .ref p), (1, .int (nI n))]) [0, 1] rfl ?_
  have hpb := hS.ne
  obtain ⟨⟨ml, hp⟩, ⟨f, hbc, hf, hby⟩, hch, htN, hN⟩ := id hS
  have hnl := numL_len (n := n)
  refine x_aload_n dJ9_append_3_0 0 rfl rfl ?_
  refine x_get dJ9_append_3_1 vC_16 in_J10 hp 3 (by decide) q356 rfl ?_
  refine x_istore_n (i := 2) (L' := [(2, .int (nI t.length)), (0, .ref p), (1, .int (nI n))]) dJ9_append_3_4 rfl (by decide) rfl ?_
  refine x_iload_n dJ9_append_3_5 0 rfl rfl ?_
  refine x_iload_n dJ9_append_3_6 2 rfl rfl ?_
  refine x_callS dJ9_append_3_7 (con_J20_stringSize hn) (lw_S q1752 q1753 q110 q1754) (np := 1) (by decide +kernel) rfl ⟨Nat.le_of_ble_eq_true rfl, Nat.le_of_ble_eq_true rfl⟩ (Nat.le_of_ble_eq_true rfl) rfl (Nat.zero_le _) (Nat.zero_le _) (rS ?_) nI'
  refine x_iadd dJ9_append_3_10 ?_
  refine x_top (x' := nI (t.length + ((numL n).length))) (nI_add _ _) ?_
  refine x_istore_n (i := 3) (L' := [(3, .int (nI (t.length + ((numL n).length)))), (2, .int (nI t.length)), (0, .ref p), (1, .int (nI n))]) dJ9_append_3_11 rfl (by decide) rfl ?_
  refine x_aload_n dJ9_append_3_12 2 rfl rfl ?_
  refine x_iload_n dJ9_append_3_13 0 rfl rfl ?_
  refine x_callP dJ9_append_3_14 (con_J9_ensureCapacityInternal hS (by omega)) q713 q2252 q714 q715 q97 q716 q736 rfl (np := 1) (by decide +kernel) rfl hS.rc ⟨Nat.le_of_ble_eq_true rfl, Nat.le_of_ble_eq_true rfl⟩ (Nat.le_of_ble_eq_true rfl) rfl (Nat.le_refl _) (Nat.le_refl _) (rV fun σ2 h1 => ?_) nV'
  obtain ⟨b1, N1, hS1, hm1, hfr1, hb1⟩ := h1
  have hpb1 := hS1.ne
  obtain ⟨⟨ml1, hp1⟩, ⟨f1, hbc1, hf1, hby1⟩, -, htN1, hN1⟩ := id hS1
  refine x_aload_n dJ9_append_3_17 2 rfl rfl ?_
  refine x_callU dJ9_append_3_18 (con_J9_isLatin1 hS1) (lw_U q733 q735 q736 q734 q97 q737) rfl (np := 0) (by decide +kernel) rfl hS1.rc ⟨Nat.le_of_ble_eq_true rfl, Nat.le_of_ble_eq_true rfl⟩ (Nat.le_of_ble_eq_true rfl) rfl (Nat.zero_le _) (Nat.zero_le _) (rS ?_) nI'
  refine x_if_eq (tgt := 37) dJ9_append_3_21 (by decide) (fun h_ => absurd h_ (by decide)) (fun _ => ?_)
  refine x_iload_n dJ9_append_3_24 3 rfl rfl ?_
  refine x_iload_n dJ9_append_3_25 0 rfl rfl ?_
  refine x_aload_n dJ9_append_3_26 2 rfl rfl ?_
  refine x_get dJ9_append_3_27 vC_16 in_J10 hp1 0 (by decide) q352 rfl ?_
  rcases Nat.lt_or_ge n 10 with h10 | h10
  · have hnl : (numL n).length = 1 := by rw [numL_1 h10]; rfl
    rw [hnl] at hm1
    have hcg := con_J20_getChars1 (l := l) (G := G) (n := n) hbc1 hf1 hby1 (show t.length + 1 ≤ N1 by omega) (by omega) h10
    rw [show t.length + 1 = t.length + (numL n).length by rw [hnl]] at hcg
    refine x_callS dJ9_append_3_30 (hcg) (lw_S q1755 q1756 q110 q1757) (np := 3) (by decide +kernel) rfl ⟨Nat.le_of_ble_eq_true rfl, Nat.le_of_ble_eq_true rfl⟩ (Nat.le_of_ble_eq_true rfl) rfl (Nat.zero_le _) (Nat.zero_le _) (rI fun z σ5 h2 => ?_) nI'
    obtain ⟨⟨g2, hg2, hg2b, hg2y⟩, hfr2⟩ := h2
    have hp2 := at_put hfr2 hp1 hpb1
    refine x_pop dJ9_append_3_33 rfl ?_
    refine x_goto (tgt := 48) dJ9_append_3_34 (by decide) ?_
    refine x_aload_n dJ9_append_3_48 2 rfl rfl ?_
    refine x_iload_n dJ9_append_3_49 0 rfl rfl ?_
    refine x_put (fs' := [.ref b1, .int (nI 0), .int ml1, .int (nI (t.length + ((numL n).length)))]) dJ9_append_3_50 vC_16 in_J10 tyJ10_ok nmJ10 hp2 3 (by decide) q356 rfl rfl (rfl) (rfl) (Nat.le_of_ble_eq_true rfl) rfl (fun σ6 hc8 hu7 => ?_)
    refine x_aload_n dJ9_append_3_53 2 rfl rfl ?_
    refine x_aret dJ9_append_3_54 rfl (by first | exact Or.inl ⟨_, rfl⟩ | exact Or.inr ⟨_, rfl⟩) (Or.inr ⟨_, rfl⟩) ⟨_, rfl, rfl, b1, N1, ⟨⟨ml1, by rw [List.length_append]; exact hc8⟩, ⟨_, at_put hu7 hg2 (fun e => hpb1 e.symm), hg2b, hg2y⟩, ok_app hch (numL_lt hn), by rw [List.length_append]; omega, hN1⟩, fun r hr hrp hrb => ?_, hb1⟩
    have n1 : r ≠ b1 := by
      rcases hb1 with q | q
      · rw [q]; exact hrb
      · intro e; rw [e] at hr; exact hr q
    rw [hu7 r hrp, hfr2 r n1]; exact hfr1 r hr hrp
  · have hnl : (numL n).length = 2 := by rw [numL_2 h10]; rfl
    rw [hnl] at hm1
    have hcg := con_J20_getChars2 (l := l) (G := G) (n := n) hbc1 hf1 hby1 (show t.length + 1 + 1 ≤ N1 by omega) (by omega) hn h10
    rw [show t.length + 1 + 1 = t.length + (numL n).length by rw [hnl]] at hcg
    refine x_callS dJ9_append_3_30 (hcg) (lw_S q1755 q1756 q110 q1757) (np := 3) (by decide +kernel) rfl ⟨Nat.le_of_ble_eq_true rfl, Nat.le_of_ble_eq_true rfl⟩ (Nat.le_of_ble_eq_true rfl) rfl (Nat.zero_le _) (Nat.zero_le _) (rI fun z σ9 h2 => ?_) nI'
    obtain ⟨⟨g2, hg2, hg2b, hg2y⟩, hfr2⟩ := h2
    have hp2 := at_put hfr2 hp1 hpb1
    refine x_pop dJ9_append_3_33 rfl ?_
    refine x_goto (tgt := 48) dJ9_append_3_34 (by decide) ?_
    refine x_aload_n dJ9_append_3_48 2 rfl rfl ?_
    refine x_iload_n dJ9_append_3_49 0 rfl rfl ?_
    refine x_put (fs' := [.ref b1, .int (nI 0), .int ml1, .int (nI (t.length + ((numL n).length)))]) dJ9_append_3_50 vC_16 in_J10 tyJ10_ok nmJ10 hp2 3 (by decide) q356 rfl rfl (rfl) (rfl) (Nat.le_of_ble_eq_true rfl) rfl (fun σ10 hc12 hu11 => ?_)
    refine x_aload_n dJ9_append_3_53 2 rfl rfl ?_
    refine x_aret dJ9_append_3_54 rfl (by first | exact Or.inl ⟨_, rfl⟩ | exact Or.inr ⟨_, rfl⟩) (Or.inr ⟨_, rfl⟩) ⟨_, rfl, rfl, b1, N1, ⟨⟨ml1, by rw [List.length_append]; exact hc12⟩, ⟨_, at_put hu11 hg2 (fun e => hpb1 e.symm), hg2b, hg2y⟩, ok_app hch (numL_lt hn), by rw [List.length_append]; omega, hN1⟩, fun r hr hrp hrb => ?_, hb1⟩
    have n1 : r ≠ b1 := by
      rcases hb1 with q | q
      · rw [q]; exact hrb
      · intro e; rw [e] at hr; exact hr q
    rw [hu11 r hrp, hfr2 r n1]; exact hfr1 r hr hrp
set_option maxHeartbeats 4000000 in
set_option maxRecDepth 100000 in
theorem con_J10_append_3 {l : Launch} {G : YG} {σ : AH} {p b N : Nat} {t : List Nat} {n : Nat} (hS : SB σ p b N t) (hn : n < 100) (hl : t.length < 148) : Con l yJ10_append_3 cJ10_append_3 2 (some (FieldType.object "java/lang/StringBuilder")) G 5 1 302 [.ref p, .int (nI n)] σ (PA fun z τ => z = p ∧ ∃ b' N', SB τ p b' N' (t ++ numL n) ∧ SK σ τ p b b') := by
  refine con_of (by decide) (Nat.le_of_ble_eq_true rfl) ?_
  refine x_locs (L' := [(0, .ref p), (1, .int (nI n))]) [0, 1] rfl ?_
  have hpb := hS.ne
  obtain ⟨⟨ml, hp⟩, ⟨f, hbc, hf, hby⟩, hch, htN, hN⟩ := id hS
  refine x_aload_n dJ10_append_3_0 0 rfl rfl ?_
  refine x_iload_n dJ10_append_3_1 1 rfl rfl ?_
  refine x_callSU dJ10_append_3_2 (con_J9_append_3 hS hn hl) (lw_SU q1749 q2269 q365 q1750 q97 q1751) (np := 1) (by decide +kernel) rfl vC_16 hp ⟨Nat.le_of_ble_eq_true rfl, Nat.le_of_ble_eq_true rfl⟩ (Nat.le_of_ble_eq_true rfl) rfl (Nat.le_refl _) (Nat.le_refl _) (rA fun z σ1 h1 => ?_) nA'
  refine x_pop dJ10_append_3_5 rfl ?_
  refine x_aload_n dJ10_append_3_6 0 rfl rfl ?_
  exact x_aret dJ10_append_3_7 rfl (by first | exact Or.inl ⟨_, rfl⟩ | exact Or.inr ⟨_, rfl⟩) (Or.inr ⟨_, rfl⟩) (⟨_, rfl, rfl, h1.2⟩)
