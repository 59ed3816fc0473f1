set_option maxRecDepth 100000
set_option maxHeartbeats 4000000 in
set_option maxRecDepth 100000 in
theorem con_J18_remove {l : Launch} {G : YG} {σ : AH} {p : Nat} {mc : Int32} {ns : NL} {z j : Nat} {x : Nat × Nat} (hL : LL σ p mc ns) (hz : LI σ z p mc ns (j + 1) (some x.1)) (hx : ns[j]? = some x) : Con l yJ18_remove cJ18_remove 2 none G 1 0 0 [.ref z] σ (PV fun τ => LL τ p (mc + 1) (ns.eraseIdx j) ∧ LI τ z p (mc + 1) (ns.eraseIdx j) j none ∧ Fr (fun q => q = z ∨ LW p ns q) σ τ) := by
  refine con_of (by decide) (Nat.le_of_ble_eq_true rfl) ?_
  refine x_locs (L' := [(0, .ref z)]) [0] rfl ?_
  have hlen := hL.len
  have hlt := get_lt' hx
  have hx1 := hL.2.1 j x hx
  obtain ⟨xx, hxx⟩ : ∃ xx, xx = x.1 := ⟨_, rfl⟩
  rw [← hxx] at hx1
  have hzI := hz
  have hz0 := hz
  unfold LI at hz hz0
  rw [← hxx] at hz
  have hnxe : nx (ns.eraseIdx j) j = nx ns (j + 1) := by rw [nx_er, if_neg (Nat.lt_irrefl _)]
  refine x_aload_n dJ18_remove_0 0 rfl rfl ?_
  refine x_callV dJ18_remove_1 (con_J18_checkForComodification hL hzI) (lw_V q910 q911 q912 q108 q913) (np := 0) (by decide +kernel) rfl (rcv_of vC_13 hzI) ⟨Nat.le_of_ble_eq_true rfl, Nat.le_of_ble_eq_true rfl⟩ (Nat.le_of_ble_eq_true rfl) rfl (by decide) (by decide) (rV fun σ1 h1 => ?_) nV'
  subst h1
  have hnext : nx ns (j + 1) = none ∨ ∃ yy, nx ns (j + 1) = some yy ∧ yy ≠ xx := by
    rcases Nat.eq_or_lt_of_le (show j + 1 ≤ ns.length from hlt) with h | h
    · exact Or.inl (nx_none (by omega))
    · obtain ⟨y, hy⟩ : ∃ y, ns[j + 1]? = some y := ⟨_, List.getElem?_eq_getElem h⟩
      exact Or.inr ⟨y.1, nx_some hy, fun e => by have := hL.inj hx hy (by rw [← hxx]; exact e.symm); omega⟩
  rcases hnext with hnx | ⟨yy, hnx, hyx⟩
  · rw [hnx] at hx1 hz hnxe
    refine x_aload_n dJ18_remove_4 0 rfl rfl ?_
    refine x_get dJ18_remove_5 vC_13 in_J18 hz 0 (by decide) q491 rfl ?_
    refine x_ifnonnull (tgt := 19) dJ18_remove_8 (by decide) ?_
    refine x_aload_n dJ18_remove_19 0 rfl rfl ?_
    refine x_get dJ18_remove_20 vC_13 in_J18 hz 0 (by decide) q491 rfl ?_
    refine x_get dJ18_remove_23 vC_12 in_J26 hx1 1 (by decide) q934 rfl ?_
    refine x_astore_nN (i := 1) (L' := [(1, .null), (0, .ref z)]) dJ18_remove_26 rfl (by decide) rfl ?_
    refine x_aload_n dJ18_remove_27 1 rfl rfl ?_
    refine x_get dJ18_remove_28 vC_13 in_J18 hz 4 (by decide) q495 rfl ?_
    refine x_aload_n dJ18_remove_31 1 rfl rfl ?_
    refine x_get dJ18_remove_32 vC_13 in_J18 hz 0 (by decide) q491 rfl ?_
    rw [hxx]
    refine x_callV dJ18_remove_35 (con_J4_unlink hL hx) (lw_V q1338 q1285 q1286 q91 q1287) (np := 1) (by decide +kernel) rfl hL.rc ⟨Nat.le_of_ble_eq_true rfl, Nat.le_of_ble_eq_true rfl⟩ (Nat.le_of_ble_eq_true rfl) rfl (by decide) (by decide) (rA fun u σ3 h2 => ?_) nA'
    obtain ⟨rfl, hLn, hFn⟩ := h2
    have hz1 := hFn.1 _ _ hz (fun hw => hL.other hz ⟨rfl, rfl⟩ hw)
    have hz2 := hz1
    have hK : Kp (fun r => r = z) σ3 σ3 := Kp.rf
    refine x_pop dJ18_remove_38 rfl ?_
    refine x_aload_n dJ18_remove_39 1 rfl rfl ?_
    refine x_get dJ18_remove_40 vC_13 in_J18 hz1 1 (by decide) q492 rfl ?_
    refine x_aload_n dJ18_remove_43 1 rfl rfl ?_
    refine x_get dJ18_remove_44 vC_13 in_J18 hz1 0 (by decide) q491 rfl ?_
    refine x_acmp_ne (rx := none) (ry := some xx) (tgt := 58) dJ18_remove_47 (by decide) (fun _ => ?_) (fun h_ => by cases h_)
    refine x_aload_n dJ18_remove_58 1 rfl rfl ?_
    refine x_dup dJ18_remove_59 rfl ?_
    refine x_get dJ18_remove_60 vC_13 in_J18 hz1 2 (by decide) q493 rfl ?_
    refine x_iconst (v := nI 1) dJ18_remove_63 (by decide) ?_
    refine x_isub dJ18_remove_64 ?_
    refine x_top (x' := nI j) (by rw [nI_sub (by omega)]; rfl) ?_
    refine x_put (fs' := [.ref xx, .null, .int (nI j), .int mc, .ref p]) dJ18_remove_65 vC_13 in_J18 tyJ18_ok nmJ18 hz1 2 (by decide) q493 rfl rfl (rfl) (rfl) (Nat.le_of_ble_eq_true rfl) rfl (fun σ4 hc6 hu5 => ?_)
    have hK := hK.put hu5 rfl
    refine x_aload_n dJ18_remove_68 1 rfl rfl ?_
    refine x_null dJ18_remove_69 ?_
    refine x_put (fs' := [.null, .null, .int (nI j), .int mc, .ref p]) dJ18_remove_70 vC_13 in_J18 tyJ18_ok nmJ18 hc6 0 (by decide) q491 rfl rfl (rfl) (rfl) (Nat.le_of_ble_eq_true rfl) rfl (fun σ7 hc9 hu8 => ?_)
    have hK := hK.put hu8 rfl
    refine x_aload_n dJ18_remove_73 1 rfl rfl ?_
    refine x_dup dJ18_remove_74 rfl ?_
    refine x_get dJ18_remove_75 vC_13 in_J18 hc9 3 (by decide) q494 rfl ?_
    refine x_iconst (v := nI 1) dJ18_remove_78 (by decide) ?_
    refine x_iadd dJ18_remove_79 ?_
    refine x_put (fs' := [.null, .null, .int (nI j), .int (mc + (nI 1)), .ref p]) dJ18_remove_80 vC_13 in_J18 tyJ18_ok nmJ18 hc9 3 (by decide) q494 rfl rfl (rfl) (rfl) (Nat.le_of_ble_eq_true rfl) rfl (fun σ10 hc12 hu11 => ?_)
    have hK := hK.put hu11 rfl
    exact x_vret dJ18_remove_83 rfl ⟨rfl, hLn.kp hK (fun q hq e => by subst e; exact hLn.other hz2 ⟨rfl, rfl⟩ hq), by unfold LI; rw [hnxe]; exact hc12, (hFn.mono (fun q hq => Or.inl (Or.inr hq))).tr (Fr.ofKp (W := fun q => q = z) hK (fun r hr => by subst hr; exact wr_ok rfl hz2 hc12 rfl)) (fun q hq => Or.inl (Or.inl hq))⟩
  · rw [hnx] at hx1 hz hnxe
    refine x_aload_n dJ18_remove_4 0 rfl rfl ?_
    refine x_get dJ18_remove_5 vC_13 in_J18 hz 0 (by decide) q491 rfl ?_
    refine x_ifnonnull (tgt := 19) dJ18_remove_8 (by decide) ?_
    refine x_aload_n dJ18_remove_19 0 rfl rfl ?_
    refine x_get dJ18_remove_20 vC_13 in_J18 hz 0 (by decide) q491 rfl ?_
    refine x_get dJ18_remove_23 vC_12 in_J26 hx1 1 (by decide) q934 rfl ?_
    refine x_astore_n (i := 1) (L' := [(1, .ref yy), (0, .ref z)]) dJ18_remove_26 rfl (by decide) rfl ?_
    refine x_aload_n dJ18_remove_27 1 rfl rfl ?_
    refine x_get dJ18_remove_28 vC_13 in_J18 hz 4 (by decide) q495 rfl ?_
    refine x_aload_n dJ18_remove_31 1 rfl rfl ?_
    refine x_get dJ18_remove_32 vC_13 in_J18 hz 0 (by decide) q491 rfl ?_
    rw [hxx]
    refine x_callV dJ18_remove_35 (con_J4_unlink hL hx) (lw_V q1338 q1285 q1286 q91 q1287) (np := 1) (by decide +kernel) rfl hL.rc ⟨Nat.le_of_ble_eq_true rfl, Nat.le_of_ble_eq_true rfl⟩ (Nat.le_of_ble_eq_true rfl) rfl (by decide) (by decide) (rA fun u σ13 h2 => ?_) nA'
    obtain ⟨rfl, hLn, hFn⟩ := h2
    have hz1 := hFn.1 _ _ hz (fun hw => hL.other hz ⟨rfl, rfl⟩ hw)
    have hz2 := hz1
    have hK : Kp (fun r => r = z) σ13 σ13 := Kp.rf
    refine x_pop dJ18_remove_38 rfl ?_
    refine x_aload_n dJ18_remove_39 1 rfl rfl ?_
    refine x_get dJ18_remove_40 vC_13 in_J18 hz1 1 (by decide) q492 rfl ?_
    refine x_aload_n dJ18_remove_43 1 rfl rfl ?_
    refine x_get dJ18_remove_44 vC_13 in_J18 hz1 0 (by decide) q491 rfl ?_
    refine x_acmp_ne (rx := (some yy)) (ry := some xx) (tgt := 58) dJ18_remove_47 (by decide) (fun _ => ?_) (fun h_ => absurd (Option.some.inj h_) hyx)
    refine x_aload_n dJ18_remove_58 1 rfl rfl ?_
    refine x_dup dJ18_remove_59 rfl ?_
    refine x_get dJ18_remove_60 vC_13 in_J18 hz1 2 (by decide) q493 rfl ?_
    refine x_iconst (v := nI 1) dJ18_remove_63 (by decide) ?_
    refine x_isub dJ18_remove_64 ?_
    refine x_top (x' := nI j) (by rw [nI_sub (by omega)]; rfl) ?_
    refine x_put (fs' := [.ref xx, .ref yy, .int (nI j), .int mc, .ref p]) dJ18_remove_65 vC_13 in_J18 tyJ18_ok nmJ18 hz1 2 (by decide) q493 rfl rfl (rfl) (rfl) (Nat.le_of_ble_eq_true rfl) rfl (fun σ14 hc16 hu15 => ?_)
    have hK := hK.put hu15 rfl
    refine x_aload_n dJ18_remove_68 1 rfl rfl ?_
    refine x_null dJ18_remove_69 ?_
    refine x_put (fs' := [.null, .ref yy, .int (nI j), .int mc, .ref p]) dJ18_remove_70 vC_13 in_J18 tyJ18_ok nmJ18 hc16 0 (by decide) q491 rfl rfl (rfl) (rfl) (Nat.le_of_ble_eq_true rfl) rfl (fun σ17 hc19 hu18 => ?_)
    have hK := hK.put hu18 rfl
    refine x_aload_n dJ18_remove_73 1 rfl rfl ?_
    refine x_dup dJ18_remove_74 rfl ?_
    refine x_get dJ18_remove_75 vC_13 in_J18 hc19 3 (by decide) q494 rfl ?_
    refine x_iconst (v := nI 1) dJ18_remove_78 (by decide) ?_
    refine x_iadd dJ18_remove_79 ?_
    refine x_put (fs' := [.null, .ref yy, .int (nI j), .int (mc + (nI 1)), .ref p]) dJ18_remove_80 vC_13 in_J18 tyJ18_ok nmJ18 hc19 3 (by decide) q494 rfl rfl (rfl) (rfl) (Nat.le_of_ble_eq_true rfl) rfl (fun σ20 hc22 hu21 => ?_)
    have hK := hK.put hu21 rfl
    exact x_vret dJ18_remove_83 rfl ⟨rfl, hLn.kp hK (fun q hq e => by subst e; exact hLn.other hz2 ⟨rfl, rfl⟩ hq), by unfold LI; rw [hnxe]; exact hc22, (hFn.mono (fun q hq => Or.inl (Or.inr hq))).tr (Fr.ofKp (W := fun q => q = z) hK (fun r hr => by subst hr; exact wr_ok rfl hz2 hc22 rfl)) (fun q hq => Or.inl (Or.inl hq))⟩
