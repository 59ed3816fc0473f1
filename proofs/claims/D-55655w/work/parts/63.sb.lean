set_option maxRecDepth 100000
theorem lw_O {own : String} {idx : Nat} {C owner : String} {x y : MethodName} {b : ByteArray} {L : Nat} {r : Option FieldType} (h1 : Cond.methodLink own idx x ∈ lw_all) (h2 : Cond.sameMethod x.cls owner x.name x.desc ∈ lw_all) (h0 : Cond.instanceMethod ⟨owner, x.name, x.desc⟩ ∈ lw_all) (h3 : Cond.selects C x y ∈ lw_all) (h4 : Cond.instanceMethod y ∈ lw_all) (h5 : Cond.initialized y.cls ∈ lw_all) (h6 : Cond.code y b L r ∈ lw_all) : GoodIn lw_all (va_wsO own idx C owner x y (ws_ y b L r)) := by
  refine lw_app ?_ (lw_meth h6)
  intro w hw
  simp only [List.mem_cons, List.not_mem_nil, or_false] at hw
  rcases hw with e | e | e | e | e | e
  · rw [e]; exact h1
  · rw [e]; exact h2
  · rw [e]; exact h0
  · rw [e]; exact h3
  · rw [e]; exact h4
  · rw [e]; exact h5
-- ===== builders of strings =====
def SB (σ : AH) (p b N : Nat) (t : List Nat) : Prop := (∃ ml : Int32, σ p = some (.inr (16, [.ref b, .int 0, .int ml, .int (nI t.length)]))) ∧ (∃ f : Nat → Int32, σ b = some (.inl (3, N, .inl f)) ∧ BytF f t ∧ ∀ j, j < N → fits .byte (.int (f j)) = true) ∧ (∀ x ∈ t, x < 128) ∧ t.length ≤ N ∧ N ≤ 302
theorem SB.rc {G : YG} {σ : AH} {p b N : Nat} {t : List Nat} (h : SB σ p b N t) : rcv G σ "java/lang/StringBuilder" p := by obtain ⟨⟨ml, h⟩, -⟩ := h; exact rcv_of vC_16 h
theorem SB.ro {σ τ : AH} {p b N : Nat} {t : List Nat} (h : SB σ p b N t) (hr : RO σ τ) : SB τ p b N t := by
  obtain ⟨⟨ml, h1⟩, ⟨f, h2, h3⟩, h4⟩ := h
  exact ⟨⟨ml, hr _ _ h1⟩, ⟨f, hr _ _ h2, h3⟩, h4⟩
theorem SB.ne {σ : AH} {p b N : Nat} {t : List Nat} (h : SB σ p b N t) : p ≠ b := fun e => by
  obtain ⟨⟨ml, h1⟩, ⟨f, h2, h3⟩, h4⟩ := h
  rw [e, h2] at h1; cases h1
/-- what stays when a builder is written to -/
def SK (σ τ : AH) (p b b' : Nat) : Prop := (∀ r, σ r ≠ none → r ≠ p → r ≠ b → τ r = σ r) ∧ (b' = b ∨ σ b' = none)
theorem SK.rf {σ : AH} {p b : Nat} : SK σ σ p b b := ⟨fun _ _ _ _ => rfl, Or.inl rfl⟩
theorem SK.str {G : YG} {σ τ : AH} {p b b' q : Nat} {t t2 : List Nat} {N : Nat} (h : SK σ τ p b b') (hs : SB σ p b N t) (hq : StrAt G σ q t2) (hb : ∀ v h1 h2, σ q = some (.inr (17, [.ref v, .int 0, h1, h2])) → v ≠ b) : StrAt G τ q t2 := by
  obtain ⟨h0, hh | ⟨v, h1, h2, f, g1, g2, g3⟩⟩ := hq
  · exact ⟨h0, Or.inl hh⟩
  · obtain ⟨⟨ml, k1⟩, ⟨f2, k2, -⟩, -⟩ := hs
    have n1 : q ≠ p := fun e => by rw [e, k1] at g1; cases g1
    have n2 : q ≠ b := fun e => by rw [e, k2] at g1; cases g1
    have n3 : v ≠ p := fun e => by rw [e, k1] at g2; cases g2
    have n4 : v ≠ b := hb v _ _ g1
    exact ⟨h0, Or.inr ⟨v, h1, h2, f, by rw [h.1 q (by rw [g1]; exact fun z => by cases z) n1 n2]; exact g1, by rw [h.1 v (by rw [g2]; exact fun z => by cases z) n3 n4]; exact g2, g3⟩⟩
set_option maxHeartbeats 4000000 in
set_option maxRecDepth 100000 in
theorem con_J9_init {l : Launch} {G : YG} {σ : AH} {p : Nat} (hp : σ p = some (.inr (16, [.null, .int 0, .int 0, .int 0]))) : Con l yJ9_init cJ9_init 2 none G 1 1 16 [.ref p, .int (nI 16)] σ (PV fun τ => ∃ b, σ b = none ∧ SB τ p b 16 [] ∧ ∀ r, σ r ≠ none → r ≠ p → τ r = σ r) := by
  refine con_of (by decide) (Nat.le_of_ble_eq_true rfl) ?_
  refine x_locs (L' := [(0, .ref p), (1, .int (nI 16))]) [0, 1] rfl ?_
  have hp0 := hp
  refine x_aload_n dJ9_init_0 0 rfl rfl ?_
  refine x_objInit dJ9_init_1 q342 q135 q136 ⟨by first | exact Nat.le_of_ble_eq_true rfl | (unfold yroom; simp only; omega), by first | exact Nat.le_of_ble_eq_true rfl | (unfold yroom; simp only; omega)⟩ rfl ?_
  refine x_gets (i := 0) (v := .int (nI 1)) dJ9_init_4 q343 rfl ?_
  refine x_if_eq (tgt := 25) dJ9_init_7 (by decide) (fun h_ => absurd h_ (by decide)) (fun _ => ?_)
  refine x_aload_n dJ9_init_10 0 rfl rfl ?_
  refine x_iload_n dJ9_init_11 1 rfl rfl ?_
  refine x_newb (N := 16) dJ9_init_12 q366 rfl (by first | omega | decide) (by omega) (by omega) (fun b σ1 hn2 hb3 hc4 hu5 => ?_)
  have hp := ro_new hn2 hu5 _ _ hp
  refine x_put (fs' := [.ref b, .int 0, .int 0, .int 0]) dJ9_init_14 vC_16 in_J10 tyJ10_ok nmJ10 hp 0 (by decide) q352 rfl rfl (rfl) (rfl) (Nat.le_of_ble_eq_true rfl) rfl (fun σ6 hc8 hu7 => ?_)
  have hc4 := at_put hu7 hc4 (cell_ne hp hc4 rfl)
  refine x_aload_n dJ9_init_17 0 rfl rfl ?_
  refine x_iconst (v := nI 0) dJ9_init_18 (by decide) ?_
  refine x_put (fs' := [.ref b, .int (nI 0), .int 0, .int 0]) dJ9_init_19 vC_16 in_J10 tyJ10_ok nmJ10 hc8 1 (by decide) q353 rfl rfl (rfl) (rfl) (Nat.le_of_ble_eq_true rfl) rfl (fun σ9 hc11 hu10 => ?_)
  have hc4 := at_put hu10 hc4 (cell_ne hc8 hc4 rfl)
  refine x_goto (tgt := 38) dJ9_init_22 (by decide) ?_
  exact x_vret dJ9_init_38 rfl ⟨rfl, b, hn2, ⟨⟨_, hc11⟩, ⟨_, hc4, (fun j x hx => by cases hx), fun _ _ => rfl⟩, (fun x hx => by cases hx), Nat.zero_le _, by decide⟩, fun r hr hrp => (hu10 r hrp).trans ((hu7 r hrp).trans (hu5 r (fun e => by subst e; exact hr hn2)))⟩
set_option maxHeartbeats 4000000 in
set_option maxRecDepth 100000 in
theorem con_J10_init {l : Launch} {G : YG} {σ : AH} {p : Nat} (hp : σ p = some (.inr (16, [.null, .int 0, .int 0, .int 0]))) : Con l yJ10_init cJ10_init 1 none G 2 1 16 [.ref p] σ (PV fun τ => ∃ b, σ b = none ∧ SB τ p b 16 [] ∧ ∀ r, σ r ≠ none → r ≠ p → τ r = σ r) := by
  refine con_of (by decide) (Nat.le_of_ble_eq_true rfl) ?_
  refine x_locs (L' := [(0, .ref p)]) [0] rfl ?_
  refine x_aload_n dJ10_init_0 0 rfl rfl ?_
  refine x_bipush (v := nI 16) dJ10_init_1 (by decide) ?_
  refine x_callI dJ10_init_3 (con_J9_init hp) (lw_meth q341) q97 q339 q340 rfl (np := 1) (by decide +kernel) rfl ⟨Nat.le_of_ble_eq_true rfl, Nat.le_of_ble_eq_true rfl⟩ (Nat.le_of_ble_eq_true rfl) rfl (Nat.le_refl _) (Nat.le_refl _) (rV fun σ1 h1 => ?_) nV'
  exact x_vret dJ10_init_6 rfl (⟨rfl, h1⟩)
set_option maxHeartbeats 4000000 in
set_option maxRecDepth 100000 in
theorem con_J9_isLatin1 {l : Launch} {G : YG} {σ : AH} {p b N : Nat} {t : List Nat} (hS : SB σ p b N t) : Con l yJ9_isLatin1 cJ9_isLatin1 1 (some FieldType.boolean) G 0 0 0 [.ref p] σ (PS σ 1) := by
  refine con_of (by decide) (Nat.le_of_ble_eq_true rfl) ?_
  refine x_locs (L' := [(0, .ref p)]) [0] rfl ?_
  have hpb := hS.ne
  obtain ⟨⟨ml, hp⟩, ⟨f, hbc, hf, hby⟩, hch, htN, hN⟩ := id hS
  refine x_gets (i := 0) (v := .int (nI 1)) dJ9_isLatin1_0 q343 rfl ?_
  refine x_if_eq (tgt := 17) dJ9_isLatin1_3 (by decide) (fun h_ => absurd h_ (by decide)) (fun _ => ?_)
  refine x_aload_n dJ9_isLatin1_6 0 rfl rfl ?_
  refine x_get dJ9_isLatin1_7 vC_16 in_J10 hp 1 (by decide) q353 rfl ?_
  refine x_if_ne (tgt := 17) dJ9_isLatin1_10 (by decide) (fun h_ => absurd (rfl) h_) (fun _ => ?_)
  refine x_iconst (v := nI 1) dJ9_isLatin1_13 (by decide) ?_
  refine x_goto (tgt := 18) dJ9_isLatin1_14 (by decide) ?_
  exact x_zret dJ9_isLatin1_18 rfl (rfl) (pS)
set_option maxHeartbeats 4000000 in
set_option maxRecDepth 100000 in
theorem con_J9_length {l : Launch} {G : YG} {σ : AH} {p b N : Nat} {t : List Nat} (hS : SB σ p b N t) : Con l yJ9_length cJ9_length 1 (some FieldType.int) G 0 0 0 [.ref p] σ (PS σ (nI t.length)) := by
  refine con_of (by decide) (Nat.le_of_ble_eq_true rfl) ?_
  refine x_locs (L' := [(0, .ref p)]) [0] rfl ?_
  have hpb := hS.ne
  obtain ⟨⟨ml, hp⟩, ⟨f, hbc, hf, hby⟩, hch, htN, hN⟩ := id hS
  refine x_aload_n dJ9_length_0 0 rfl rfl ?_
  refine x_get dJ9_length_1 vC_16 in_J10 hp 3 (by decide) q356 rfl ?_
  exact x_iret dJ9_length_4 rfl (pS)
set_option maxHeartbeats 4000000 in
set_option maxRecDepth 100000 in
theorem con_J10_length {l : Launch} {G : YG} {σ : AH} {p b N : Nat} {t : List Nat} (hS : SB σ p b N t) : Con l yJ10_length cJ10_length 1 (some FieldType.int) G 1 0 0 [.ref p] σ (PS σ (nI t.length)) := by
  refine con_of (by decide) (Nat.le_of_ble_eq_true rfl) ?_
  refine x_locs (L' := [(0, .ref p)]) [0] rfl ?_
  have hpb := hS.ne
  obtain ⟨⟨ml, hp⟩, ⟨f, hbc, hf, hby⟩, hch, htN, hN⟩ := id hS
  refine x_aload_n dJ10_length_0 0 rfl rfl ?_
  refine x_callSU dJ10_length_1 (con_J9_length hS) (lw_SU q832 q828 q365 q827 q97 q833) (np := 0) (by decide +kernel) rfl vC_16 hp ⟨Nat.le_of_ble_eq_true rfl, Nat.le_of_ble_eq_true rfl⟩ (Nat.le_of_ble_eq_true rfl) rfl (by decide) (by decide) (rS ?_) nI'
  exact x_iret dJ10_length_4 rfl (pS)
set_option maxHeartbeats 4000000 in
set_option maxRecDepth 100000 in
theorem con_J9_getValue {l : Launch} {G : YG} {σ : AH} {p b N : Nat} {t : List Nat} (hS : SB σ p b N t) : Con l yJ9_getValue cJ9_getValue 1 (some (FieldType.array FieldType.byte)) G 0 0 0 [.ref p] σ (PA fun z τ => z = b ∧ τ = σ) := by
  refine con_of (by decide) (Nat.le_of_ble_eq_true rfl) ?_
  refine x_locs (L' := [(0, .ref p)]) [0] rfl ?_
  have hpb := hS.ne
  obtain ⟨⟨ml, hp⟩, ⟨f, hbc, hf, hby⟩, hch, htN, hN⟩ := id hS
  refine x_aload_n dJ9_getValue_0 0 rfl rfl ?_
  refine x_get dJ9_getValue_1 vC_16 in_J10 hp 0 (by decide) q352 rfl ?_
  exact x_aret dJ9_getValue_4 rfl (by first | exact Or.inl ⟨_, rfl⟩ | exact Or.inr ⟨_, rfl⟩) (Or.inr ⟨_, rfl⟩) (⟨_, rfl, rfl, rfl⟩)
set_option maxHeartbeats 4000000 in
set_option maxRecDepth 100000 in
theorem con_J25_canEncode {l : Launch} {G : YG} {σ : AH} {c : Nat} (hc : c < 256) : Con l yJ25_canEncode cJ25_canEncode 1 (some FieldType.boolean) G 0 0 0 [.int (nI c)] σ (PS σ 1) := by
  refine con_of (by decide) (Nat.le_of_ble_eq_true rfl) ?_
  refine x_locs (L' := [(0, .int (nI c))]) [0] rfl ?_
  refine x_iload_n dJ25_canEncode_0 0 rfl rfl ?_
  refine x_sipush (v := nI 255) dJ25_canEncode_1 (by decide) ?_
  refine x_icmp_gt (tgt := 11) dJ25_canEncode_4 (by decide) (fun h_ => absurd h_ (fun h => absurd (nLt (by omega) (by omega) h) (by omega))) (fun _ => ?_)
  refine x_iconst (v := nI 1) dJ25_canEncode_7 (by decide) ?_
  refine x_goto (tgt := 12) dJ25_canEncode_8 (by decide) ?_
  exact x_zret dJ25_canEncode_12 rfl (rfl) (pS)
theorem Int32_shl0 (x : Int32) : x <<< (nI 0 &&& 31) = x := b_ext fun i hi => by
  rw [b_shl 0 (by decide) _ hi, decide_eq_true (Nat.zero_le _), Nat.sub_zero, Bool.true_and]
theorem cpy_fit {f g : Nat → Int32} {dp m : Nat} (h : ∀ j, j < m → fits .byte (.int (f j)) = true) (hg : ∀ j, fits .byte (.int (g j)) = true) (j : Nat) : fits .byte (.int (va_cpy f g 0 dp m j)) = true := by
  unfold va_cpy
  split
  · exact h _ (by omega)
  · exact hg j
theorem byte_lt {c : Nat} (h : c < 128) : (nI c).toInt8.toInt32 = nI c := (by decide +kernel : ∀ c, c < 128 → (nI c).toInt8.toInt32 = nI c) c h
theorem nar_b {c : Nat} (h : c < 128) : vp_nar .byte (nI c) = nI c := (by decide +kernel : ∀ c, c < 128 → vp_nar .byte (nI c) = nI c) c h
theorem fit_b {c : Nat} (h : c < 128) : fits .byte (.int (nI c)) = true := (by decide +kernel : ∀ c, c < 128 → fits .byte (.int (nI c)) = true) c h
set_option maxHeartbeats 4000000 in
set_option maxRecDepth 100000 in
theorem con_J5_newLength {l : Launch} {G : YG} {σ : AH} {x y z : Nat} (hx : x < 1000) (hy : y < 1000) (hz : z < 1000) (h0 : 0 < z) : Con l yJ5_newLength cJ5_newLength 4 (some FieldType.int) G 1 0 0 [.int (nI x), .int (nI y), .int (nI z)] σ (PS σ (nI (x + Nat.max y z))) := by
  refine con_of (by decide) (Nat.le_of_ble_eq_true rfl) ?_
  refine x_locs (L' := [(0, .int (nI x)), (1, .int (nI y)), (2, .int (nI z))]) [0, 1, 2] rfl ?_
  have hm : Nat.max y z < 1000 := Nat.max_lt.mpr ⟨hy, hz⟩
  have hm0 : z ≤ Nat.max y z := Nat.le_max_right _ _
  refine x_iload_n dJ5_newLength_0 0 rfl rfl ?_
  refine x_iload_n dJ5_newLength_1 1 rfl rfl ?_
  refine x_iload_n dJ5_newLength_2 2 rfl rfl ?_
  refine x_callS dJ5_newLength_3 (con_J6_max (x := y) (y := z) (by omega) (by omega)) (lw_S q226 q227 q93 q228) (np := 2) (by decide +kernel) rfl ⟨Nat.le_of_ble_eq_true rfl, Nat.le_of_ble_eq_true rfl⟩ (Nat.le_of_ble_eq_true rfl) rfl (by decide) (by decide) (rS ?_) nI'
  refine x_iadd dJ5_newLength_6 ?_
  refine x_top (x' := nI (x + (Nat.max y z))) (nI_add _ _) ?_
  refine x_istore_n (i := 3) (L' := [(3, .int (nI (x + (Nat.max y z)))), (0, .int (nI x)), (1, .int (nI y)), (2, .int (nI z))]) dJ5_newLength_7 rfl (by decide) rfl ?_
  refine x_iconst (v := nI 0) dJ5_newLength_8 (by decide) ?_
  refine x_iload_n dJ5_newLength_9 0 rfl rfl ?_
  refine x_icmp_ge (tgt := 21) dJ5_newLength_10 (by decide) (fun h_ => absurd h_ (fun h => absurd (nLe (by omega) (by decide) h) (by omega))) (fun _ => ?_)
  refine x_iload_n dJ5_newLength_13 0 rfl rfl ?_
  refine x_ldc (v := nI 2147483639) dJ5_newLength_14 q229 ?_
  refine x_icmp_gt (tgt := 21) dJ5_newLength_16 (by decide) (fun h_ => absurd h_ (fun h => absurd (nLt (by decide) (by omega) h) (by omega))) (fun _ => ?_)
  refine x_iload_n dJ5_newLength_19 0 rfl rfl ?_
  exact x_iret dJ5_newLength_20 rfl (pS)
set_option maxHeartbeats 4000000 in
set_option maxRecDepth 100000 in
theorem con_J9_newCapacity {l : Launch} {G : YG} {σ : AH} {p b N : Nat} {t : List Nat} {m : Nat} (hS : SB σ p b N t) (hm : m < 400) (hNm : N ≤ m) : Con l yJ9_newCapacity cJ9_newCapacity 6 (some FieldType.int) G 2 0 0 [.ref p, .int (nI m)] σ (PS σ (nI (N + Nat.max (m - N) (N + 2)))) := by
  refine con_of (by decide) (Nat.le_of_ble_eq_true rfl) ?_
  refine x_locs (L' := [(0, .ref p), (1, .int (nI m))]) [0, 1] rfl ?_
  have hpb := hS.ne
  obtain ⟨⟨ml, hp⟩, ⟨f, hbc, hf, hby⟩, hch, htN, hN⟩ := id hS
  have hmx : Nat.max (m - N) (N + 2) < 1000 := Nat.max_lt.mpr ⟨by omega, by omega⟩
  refine x_aload_n dJ9_newCapacity_0 0 rfl rfl ?_
  refine x_get dJ9_newCapacity_1 vC_16 in_J10 hp 0 (by decide) q352 rfl ?_
  refine x_alen (N := 0) (q0 := 3) (v := nI N) dJ9_newCapacity_4 hbc rfl rfl ?_
  refine x_istore_n (i := 2) (L' := [(2, .int (nI N)), (0, .ref p), (1, .int (nI m))]) dJ9_newCapacity_5 rfl (by decide) rfl ?_
  refine x_iload_n dJ9_newCapacity_6 2 rfl rfl ?_
  refine x_aload_n dJ9_newCapacity_7 1 rfl rfl ?_
  refine x_get dJ9_newCapacity_8 vC_16 in_J10 hp 1 (by decide) q353 rfl ?_
  refine x_ishl dJ9_newCapacity_11 ?_
  refine x_top (x' := nI m) (Int32_shl0 _) ?_
  refine x_istore_n (i := 3) (L' := [(3, .int (nI m)), (2, .int (nI N)), (0, .ref p), (1, .int (nI m))]) dJ9_newCapacity_12 rfl (by decide) rfl ?_
  refine x_iload_n dJ9_newCapacity_13 0 rfl rfl ?_
  refine x_iload_n dJ9_newCapacity_14 1 rfl rfl ?_
  refine x_isub dJ9_newCapacity_15 ?_
  refine x_top (x' := nI (m - N)) (nI_sub hNm) ?_
  refine x_istore (i := 4) (L' := [(4, .int (nI (m - N))), (3, .int (nI m)), (2, .int (nI N)), (0, .ref p), (1, .int (nI m))]) dJ9_newCapacity_16 (by decide) rfl ?_
  refine x_iload_n dJ9_newCapacity_18 2 rfl rfl ?_
  refine x_iload dJ9_newCapacity_19 0 rfl ?_
  refine x_iload_n dJ9_newCapacity_21 2 rfl rfl ?_
  refine x_iconst (v := nI 2) dJ9_newCapacity_22 (by decide) ?_
  refine x_aload_n dJ9_newCapacity_23 3 rfl rfl ?_
  refine x_get dJ9_newCapacity_24 vC_16 in_J10 hp 1 (by decide) q353 rfl ?_
  refine x_ishl dJ9_newCapacity_27 ?_
  refine x_top (x' := nI 2) (Int32_shl0 _) ?_
  refine x_iadd dJ9_newCapacity_28 ?_
  refine x_top (x' := nI (N + 2)) (nI_add _ _) ?_
  refine x_callS dJ9_newCapacity_29 (con_J5_newLength (x := N) (y := m - N) (z := N + 2) (by omega) (by omega) (by omega) (by omega)) (lw_S q721 q224 q92 q225) (np := 3) (by decide +kernel) rfl ⟨Nat.le_of_ble_eq_true rfl, Nat.le_of_ble_eq_true rfl⟩ (Nat.le_of_ble_eq_true rfl) rfl (by decide) (by decide) (rS ?_) nI'
  refine x_istore (i := 5) (L' := [(5, .int (nI (N + Nat.max (m - N) (N + 2)))), (4, .int (nI (m - N))), (3, .int (nI m)), (2, .int (nI N)), (0, .ref p), (1, .int (nI m))]) dJ9_newCapacity_32 (by decide) rfl ?_
  refine x_iload dJ9_newCapacity_34 0 rfl ?_
  refine x_ldc (v := nI 2147483647) dJ9_newCapacity_36 q722 ?_
  refine x_icmp_ne (tgt := 51) dJ9_newCapacity_38 (by decide) (fun _ => ?_) (fun h_ => absurd h_ (fun h => absurd (nEq (by omega) (by decide) h) (by omega)))
  refine x_iload dJ9_newCapacity_51 0 rfl ?_
  refine x_aload_n dJ9_newCapacity_53 4 rfl rfl ?_
  refine x_get dJ9_newCapacity_54 vC_16 in_J10 hp 1 (by decide) q353 rfl ?_
  refine x_ishr dJ9_newCapacity_57 ?_
  refine x_top (x' := nI (N + Nat.max (m - N) (N + 2))) (Int32_shr0 _) ?_
  exact x_iret dJ9_newCapacity_58 rfl (pS)
set_option maxHeartbeats 4000000 in
set_option maxRecDepth 100000 in
theorem con_J7_copyOf_3 {l : Launch} {G : YG} {σ : AH} {b N n2 : Nat} {f : Nat → Int32} (hb : σ b = some (.inl (3, N, .inl f))) (hfit : ∀ j, j < N → fits .byte (.int (f j)) = true) (hN : N < n2) (h2 : n2 < 1000) : Con l yJ7_copyOf_3 cJ7_copyOf_3 3 (some (FieldType.array FieldType.byte)) G 1 1 n2 [.ref b, .int (nI n2)] σ (PA fun z τ => σ z = none ∧ τ z = some (.inl (3, n2, .inl (va_cpy f (fun _ => 0) 0 0 N))) ∧ RO σ τ) := by
  refine con_of (by decide) (Nat.le_of_ble_eq_true rfl) ?_
  refine x_locs (L' := [(0, .ref b), (1, .int (nI n2))]) [0, 1] rfl ?_
  refine x_iload_n dJ7_copyOf_3_0 1 rfl rfl ?_
  refine x_aload_n dJ7_copyOf_3_1 0 rfl rfl ?_
  refine x_alen (N := 0) (q0 := 3) (v := nI N) dJ7_copyOf_3_2 hb rfl rfl ?_
  refine x_icmp_ne (tgt := 14) dJ7_copyOf_3_3 (by decide) (fun _ => ?_) (fun h_ => absurd h_ (fun h => absurd (nEq (by omega) (by omega) h) (by omega)))
  refine x_iload_n dJ7_copyOf_3_14 1 rfl rfl ?_
  refine x_newb (N := n2) dJ7_copyOf_3_15 q366 rfl (by first | omega | decide) (Nat.le_refl _) (Nat.le_refl _) (fun z σ1 hn2 hb3 hc4 hu5 => ?_)
  have hb := ro_new hn2 hu5 _ _ hb
  refine x_astore_n (i := 2) (L' := [(2, .ref z), (0, .ref b), (1, .int (nI n2))]) dJ7_copyOf_3_17 rfl (by decide) rfl ?_
  refine x_aload_n dJ7_copyOf_3_18 1 rfl rfl ?_
  refine x_iconst (v := nI 0) dJ7_copyOf_3_19 (by decide) ?_
  refine x_aload_n dJ7_copyOf_3_20 0 rfl rfl ?_
  refine x_iconst (v := nI 0) dJ7_copyOf_3_21 (by decide) ?_
  refine x_aload_n dJ7_copyOf_3_22 1 rfl rfl ?_
  refine x_alen (N := 0) (q0 := 3) (v := nI N) dJ7_copyOf_3_23 hb rfl rfl ?_
  refine x_iload_n dJ7_copyOf_3_24 2 rfl rfl ?_
  refine x_callS dJ7_copyOf_3_25 (con_J6_min (x := N) (y := n2) (by omega) (by omega)) (lw_S q270 q271 q93 q272) (np := 2) (by decide +kernel) rfl ⟨Nat.le_of_ble_eq_true rfl, Nat.le_of_ble_eq_true rfl⟩ (Nat.le_of_ble_eq_true rfl) rfl (Nat.zero_le _) (Nat.zero_le _) (rS ?_) nI'
  refine x_top (x' := nI N) (congrArg nI (nminL (by omega))) ?_
  refine x_copyB (sp := 0) (dp := 0) (m := N) dJ7_copyOf_3_28 q273 hb hc4 (by omega) (by omega) (by omega) (by omega) (fun i hi => by rw [Nat.zero_add]; exact hfit i hi) ⟨Nat.le_of_ble_eq_true rfl, Nat.le_of_ble_eq_true rfl⟩ (Nat.le_of_ble_eq_true rfl) (fun σ8 g8 f8 => ?_)
  refine x_aload_n dJ7_copyOf_3_31 0 rfl rfl ?_
  exact x_aret dJ7_copyOf_3_32 rfl (by first | exact Or.inl ⟨_, rfl⟩ | exact Or.inr ⟨_, rfl⟩) (Or.inr ⟨_, rfl⟩) (⟨_, rfl, hn2, g8, ro_new hn2 (fun q hq => (f8 q hq).trans (hu5 q hq))⟩)
set_option maxHeartbeats 4000000 in
set_option maxRecDepth 100000 in
theorem con_J9_ensureCapacityInternal {l : Launch} {G : YG} {σ : AH} {p b N : Nat} {t : List Nat} {m : Nat} (hS : SB σ p b N t) (hm : m ≤ 150) : Con l yJ9_ensureCapacityInternal cJ9_ensureCapacityInternal 3 none G 3 1 302 [.ref p, .int (nI m)] σ (PV fun τ => ∃ b' N', SB τ p b' N' t ∧ m ≤ N' ∧ (∀ r, σ r ≠ none → r ≠ p → τ r = σ r) ∧ (b' = b ∨ σ b' = none)) := by
  refine con_of (by decide) (Nat.le_of_ble_eq_true rfl) ?_
  refine x_locs (L' := [(0, .ref p), (1, .int (nI m))]) [0, 1] rfl ?_
  have hpb := hS.ne
  obtain ⟨⟨ml, hp⟩, ⟨f, hbc, hf, hby⟩, hch, htN, hN⟩ := id hS
  refine x_aload_n dJ9_ensureCapacityInternal_0 0 rfl rfl ?_
  refine x_get dJ9_ensureCapacityInternal_1 vC_16 in_J10 hp 0 (by decide) q352 rfl ?_
  refine x_alen (N := 0) (q0 := 3) (v := nI N) dJ9_ensureCapacityInternal_4 hbc rfl rfl ?_
  refine x_aload_n dJ9_ensureCapacityInternal_5 0 rfl rfl ?_
  refine x_get dJ9_ensureCapacityInternal_6 vC_16 in_J10 hp 1 (by decide) q353 rfl ?_
  refine x_ishr dJ9_ensureCapacityInternal_9 ?_
  refine x_top (x' := nI N) (Int32_shr0 _) ?_
  refine x_istore_n (i := 2) (L' := [(2, .int (nI N)), (0, .ref p), (1, .int (nI m))]) dJ9_ensureCapacityInternal_10 rfl (by decide) rfl ?_
  refine x_iload_n dJ9_ensureCapacityInternal_11 2 rfl rfl ?_
  refine x_iload_n dJ9_ensureCapacityInternal_12 0 rfl rfl ?_
  refine x_isub dJ9_ensureCapacityInternal_13 ?_
  refine x_if_le (tgt := 38) dJ9_ensureCapacityInternal_14 (by decide) (fun c1 => ?_) (fun c1 => ?_)
  · have c1 : m ≤ N := (sb_le (by omega) (by omega)).mp c1
    exact x_vret dJ9_ensureCapacityInternal_38 rfl (⟨rfl, b, N, hS, c1, fun _ _ _ => rfl, Or.inl rfl⟩)
  · have c1 : N < m := by have : ¬ m ≤ N := fun z => c1 ((sb_le (by omega) (by omega)).mpr z); omega
    have hmx : Nat.max (m - N) (N + 2) ≤ 152 := Nat.max_le.mpr ⟨by omega, by omega⟩
    have hm2 : m - N ≤ Nat.max (m - N) (N + 2) := Nat.le_max_left _ _
    have hm3 : N + 2 ≤ Nat.max (m - N) (N + 2) := Nat.le_max_right _ _
    refine x_aload_n dJ9_ensureCapacityInternal_17 1 rfl rfl ?_
    refine x_aload_n dJ9_ensureCapacityInternal_18 1 rfl rfl ?_
    refine x_get dJ9_ensureCapacityInternal_19 vC_16 in_J10 hp 0 (by decide) q352 rfl ?_
    refine x_aload_n dJ9_ensureCapacityInternal_22 1 rfl rfl ?_
    refine x_iload_n dJ9_ensureCapacityInternal_23 2 rfl rfl ?_
    refine x_callP dJ9_ensureCapacityInternal_24 (con_J9_newCapacity hS (by omega) (by omega)) q717 q2253 q718 q719 q97 q720 q736 rfl (np := 1) (by decide +kernel) rfl hS.rc ⟨Nat.le_of_ble_eq_true rfl, Nat.le_of_ble_eq_true rfl⟩ (Nat.le_of_ble_eq_true rfl) rfl (Nat.zero_le _) (Nat.zero_le _) (rS ?_) nI'
    refine x_aload_n dJ9_ensureCapacityInternal_27 1 rfl rfl ?_
    refine x_get dJ9_ensureCapacityInternal_28 vC_16 in_J10 hp 1 (by decide) q353 rfl ?_
    refine x_ishl dJ9_ensureCapacityInternal_31 ?_
    refine x_top (x' := nI (N + Nat.max (m - N) (N + 2))) (Int32_shl0 _) ?_
    obtain ⟨f0, hf0⟩ : ∃ f0 : Nat → Int32, f0 = f := ⟨_, rfl⟩
    have hbyte := hby
    refine x_callS dJ9_ensureCapacityInternal_32 (con_J7_copyOf_3 hbc hbyte (by omega) (by omega)) (lw_S q723 q724 q94 q725) (np := 2) (by decide +kernel) rfl ⟨Nat.le_of_ble_eq_true rfl, Nat.le_of_ble_eq_true rfl⟩ (Nat.le_of_ble_eq_true rfl) rfl (Nat.le_refl _) (by omega) (rA fun z σ2 h1 => ?_) nA'
    obtain ⟨hzn, hz, hro⟩ := h1
    have hp1 := hro _ _ hp
    have hpz : p ≠ z := cell_nn hzn hp
    refine x_put (fs' := [.ref z, .int (nI 0), .int ml, .int (nI t.length)]) dJ9_ensureCapacityInternal_35 vC_16 in_J10 tyJ10_ok nmJ10 hp1 0 (by decide) q352 rfl rfl (rfl) (rfl) (Nat.le_of_ble_eq_true rfl) rfl (fun σ3 hc5 hu4 => ?_)
    exact x_vret dJ9_ensureCapacityInternal_38 rfl ⟨rfl, z, N + Nat.max (m - N) (N + 2), ⟨⟨ml, hc5⟩, ⟨_, at_put hu4 hz (fun e => hpz e.symm), fun j x hx => by rw [pk_cpy_in (by omega) (by have := get_lt' hx; omega), show 0 + (j - 0) = j by omega]; exact hf j x hx, fun j hj => cpy_fit hby (fun _ => rfl) j⟩, hch, by omega, by omega⟩, by omega, fun r hr hrp => (hu4 r hrp).trans (by cases hs : σ r with
        | none => exact absurd hs hr
        | some e => exact hro _ _ hs), Or.inr hzn⟩
