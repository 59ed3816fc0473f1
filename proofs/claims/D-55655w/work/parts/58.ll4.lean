set_option maxRecDepth 100000
set_option maxHeartbeats 4000000 in
set_option maxRecDepth 100000 in
theorem con_J4_unlink {l : Launch} {G : YG} {σ : AH} {p : Nat} {mc : Int32} {ns : NL} {i : Nat} {x : Nat × Nat} (hL : LL σ p mc ns) (hx : ns[i]? = some x) : Con l yJ4_unlink cJ4_unlink 5 (some (FieldType.object "java/lang/Object")) G 0 0 0 [.ref p, .ref x.1] σ (PA fun z τ => z = x.2 ∧ LL τ p (mc + 1) (ns.eraseIdx i) ∧ Fr (LW p ns) σ τ) := by
  refine con_of (by decide) (Nat.le_of_ble_eq_true rfl) ?_
  refine x_locs (L' := [(0, .ref p), (1, .ref x.1)]) [0, 1] rfl ?_
  have hlen := hL.len
  have hlt := get_lt' hx
  obtain ⟨xx, hxx⟩ : ∃ xx, xx = x.1 := ⟨_, rfl⟩
  rw [← hxx]
  have hp := hL.1
  have hx1 := hL.2.1 i x hx
  rw [← hxx] at hx1
  have hp0 := hp
  have hx0 := hx1
  have hprev : (i = 0 ∧ pv ns i = none) ∨ ∃ j y, i = j + 1 ∧ ns[j]? = some y ∧ pv ns i = some y.1 := by
    cases i with
    | zero => exact Or.inl ⟨rfl, rfl⟩
    | succ j =>
      obtain ⟨y, hy⟩ : ∃ y, ns[j]? = some y := ⟨_, List.getElem?_eq_getElem (by omega)⟩
      exact Or.inr ⟨j, y, rfl, hy, nx_some hy⟩
  have hnext : (i + 1 = ns.length ∧ nx ns (i + 1) = none) ∨ ∃ y, ns[i + 1]? = some y ∧ nx ns (i + 1) = some y.1 := by
    rcases Nat.eq_or_lt_of_le (show i + 1 ≤ ns.length from hlt) with h | h
    · exact Or.inl ⟨h, nx_none (by omega)⟩
    · obtain ⟨y, hy⟩ : ∃ y, ns[i + 1]? = some y := ⟨_, List.getElem?_eq_getElem h⟩
      exact Or.inr ⟨y, hy, nx_some hy⟩
  rcases hprev with ⟨hi0, hpv⟩ | ⟨j, y, hij, hy, hpv⟩
  · skip
    rw [hpv] at hx1
    rcases hnext with ⟨hil, hnx⟩ | ⟨z, hz, hnx⟩
    · skip
      rw [hnx] at hx1
      have hK : Kp (fun r => r = p ∨ r = xx) σ σ := Kp.rf
      refine x_aload_n dJ4_unlink_0 1 rfl rfl ?_
      refine x_get dJ4_unlink_1 vC_12 in_J26 hx1 0 (by decide) q932 rfl ?_
      refine x_astore_n (i := 2) (L' := [(2, .ref x.2), (0, .ref p), (1, .ref xx)]) dJ4_unlink_4 rfl (by decide) rfl ?_
      refine x_aload_n dJ4_unlink_5 2 rfl rfl ?_
      refine x_get dJ4_unlink_6 vC_12 in_J26 hx1 1 (by decide) q935 rfl ?_
      refine x_astore_nN (i := 3) (L' := [(3, .null), (2, .ref x.2), (0, .ref p), (1, .ref xx)]) dJ4_unlink_9 rfl (by decide) rfl ?_
      refine x_aload_n dJ4_unlink_10 3 rfl rfl ?_
      refine x_get dJ4_unlink_11 vC_12 in_J26 hx1 2 (by decide) q937 rfl ?_
      refine x_astoreN (i := 4) (L' := [(4, .null), (3, .null), (2, .ref x.2), (0, .ref p), (1, .ref xx)]) dJ4_unlink_14 (by decide) rfl ?_
      refine x_aloadN dJ4_unlink_16 0 rfl ?_
      refine x_ifnonnullN dJ4_unlink_18 ?_
      refine x_aload_n dJ4_unlink_21 3 rfl rfl ?_
      refine x_aload_nN dJ4_unlink_22 1 rfl rfl ?_
      refine x_put (fs' := [.int mc, .int (nI ns.length), .null, va_rf (pv ns ns.length)]) dJ4_unlink_23 vC_11 in_J4 tyJ4_ok nmJ4 hp 2 (by decide) q194 rfl rfl (rfl) (rfl) (Nat.le_of_ble_eq_true rfl) rfl (fun σ1 hc3 hu2 => ?_)
      have hx1 := at_put hu2 hx1 (cell_ne hp hx1 rfl)
      have hK := hK.put hu2 (Or.inl rfl)
      refine x_goto (tgt := 40) dJ4_unlink_26 (by decide) ?_
      refine x_aload_nN dJ4_unlink_40 1 rfl rfl ?_
      refine x_ifnonnullN dJ4_unlink_41 ?_
      refine x_aload_n dJ4_unlink_44 3 rfl rfl ?_
      refine x_aloadN dJ4_unlink_45 0 rfl ?_
      refine x_put (fs' := [.int mc, .int (nI ns.length), .null, .null]) dJ4_unlink_47 vC_11 in_J4 tyJ4_ok nmJ4 hc3 3 (by decide) q195 rfl rfl (rfl) (rfl) (Nat.le_of_ble_eq_true rfl) rfl (fun σ4 hc6 hu5 => ?_)
      have hx1 := at_put hu5 hx1 (cell_ne hc3 hx1 rfl)
      have hK := hK.put hu5 (Or.inl rfl)
      refine x_goto (tgt := 64) dJ4_unlink_50 (by decide) ?_
      refine x_aload_n dJ4_unlink_64 4 rfl rfl ?_
      refine x_null dJ4_unlink_65 ?_
      refine x_put (fs' := [.null, .null, .null]) dJ4_unlink_66 vC_12 in_J26 tyJ26_ok nmJ26 hx1 0 (by decide) q932 rfl rfl (rfl) (rfl) (Nat.le_of_ble_eq_true rfl) rfl (fun σ7 hc9 hu8 => ?_)
      have hc6 := at_put hu8 hc6 (cell_ne hx1 hc6 rfl)
      have hK := hK.put hu8 (Or.inr rfl)
      refine x_aload_n dJ4_unlink_69 3 rfl rfl ?_
      refine x_dup dJ4_unlink_70 rfl ?_
      refine x_get dJ4_unlink_71 vC_11 in_J4 hc6 1 (by decide) q192 rfl ?_
      refine x_iconst (v := nI 1) dJ4_unlink_74 (by decide) ?_
      refine x_isub dJ4_unlink_75 ?_
      refine x_top (x' := nI (ns.length - 1)) (nI_sub (by omega)) ?_
      refine x_put (fs' := [.int mc, .int (nI (ns.length - 1)), .null, .null]) dJ4_unlink_76 vC_11 in_J4 tyJ4_ok nmJ4 hc6 1 (by decide) q192 rfl rfl (rfl) (rfl) (Nat.le_of_ble_eq_true rfl) rfl (fun σ10 hc12 hu11 => ?_)
      have hc9 := at_put hu11 hc9 (cell_ne hc6 hc9 rfl)
      have hK := hK.put hu11 (Or.inl rfl)
      refine x_aload_n dJ4_unlink_79 3 rfl rfl ?_
      refine x_dup dJ4_unlink_80 rfl ?_
      refine x_getS (ref := "java/util/LinkedList") dJ4_unlink_81 vC_11 in_J4 hc12 0 (by decide) q173 q169 rfl ?_
      refine x_iconst (v := nI 1) dJ4_unlink_84 (by decide) ?_
      refine x_iadd dJ4_unlink_85 ?_
      refine x_putS (ref := "java/util/LinkedList") (fs' := [.int (mc + (nI 1)), .int (nI (ns.length - 1)), .null, .null]) dJ4_unlink_86 vC_11 in_J4 tyJ4_ok nmJ4 hc12 0 (by decide) q173 q169 rfl rfl (rfl) (rfl) (Nat.le_of_ble_eq_true rfl) rfl (fun σ13 hc15 hu14 => ?_)
      have hc9 := at_put hu14 hc9 (cell_ne hc12 hc9 rfl)
      have hK := hK.put hu14 (Or.inl rfl)
      refine x_aload_n dJ4_unlink_89 2 rfl rfl ?_
      refine x_aret dJ4_unlink_90 rfl (by first | exact Or.inl ⟨_, rfl⟩ | exact Or.inr ⟨_, rfl⟩) (Or.inr ⟨_, rfl⟩) ⟨_, rfl, rfl, hL.era (i := i) hlt ?_ (fun k u hk hu => ?_), Fr.ofKp hK (fun r hr => ?_)⟩
      · rw [if_pos hi0, show nx ns 1 = none by rw [← hnx, hi0]]
        rw [if_pos hil, hpv]
        exact hc15
      · by_cases e1 : k + 1 = i
        · omega
        · rw [if_neg e1]
          by_cases e2 : k = i + 1
          · have := get_lt' hu; omega
          · rw [if_neg e2, hK u.1 (fun w => ?_)]
            · exact hL.2.1 k u hu
            · rcases w with w | w
              · exact hL.pne hu w
              · exact hk (hL.inj hu hx (w.trans hxx))
      · rcases hr with rfl | rfl
        · exact wr_ok (Or.inl rfl) hp0 hc15 rfl
        · exact wr_ok (hxx ▸ hL.mem hx) hx0 hc9 rfl
    · obtain ⟨zz, hzz⟩ : ∃ zz, zz = z.1 := ⟨_, rfl⟩
      have hz1 := hL.2.1 (i + 1) z hz
      rw [← hzz] at hz1 hnx
      have hz0 := hz1
      have hxz : xx ≠ zz := fun e => by have := hL.inj hx hz (by rw [← hxx, ← hzz]; exact e); omega
      rw [hnx] at hx1
      have hK : Kp (fun r => r = p ∨ r = xx ∨ r = zz) σ σ := Kp.rf
      refine x_aload_n dJ4_unlink_0 1 rfl rfl ?_
      refine x_get dJ4_unlink_1 vC_12 in_J26 hx1 0 (by decide) q932 rfl ?_
      refine x_astore_n (i := 2) (L' := [(2, .ref x.2), (0, .ref p), (1, .ref xx)]) dJ4_unlink_4 rfl (by decide) rfl ?_
      refine x_aload_n dJ4_unlink_5 2 rfl rfl ?_
      refine x_get dJ4_unlink_6 vC_12 in_J26 hx1 1 (by decide) q935 rfl ?_
      refine x_astore_n (i := 3) (L' := [(3, .ref zz), (2, .ref x.2), (0, .ref p), (1, .ref xx)]) dJ4_unlink_9 rfl (by decide) rfl ?_
      refine x_aload_n dJ4_unlink_10 3 rfl rfl ?_
      refine x_get dJ4_unlink_11 vC_12 in_J26 hx1 2 (by decide) q937 rfl ?_
      refine x_astoreN (i := 4) (L' := [(4, .null), (3, .ref zz), (2, .ref x.2), (0, .ref p), (1, .ref xx)]) dJ4_unlink_14 (by decide) rfl ?_
      refine x_aloadN dJ4_unlink_16 0 rfl ?_
      refine x_ifnonnullN dJ4_unlink_18 ?_
      refine x_aload_n dJ4_unlink_21 3 rfl rfl ?_
      refine x_aload_n dJ4_unlink_22 1 rfl rfl ?_
      refine x_put (fs' := [.int mc, .int (nI ns.length), .ref zz, va_rf (pv ns ns.length)]) dJ4_unlink_23 vC_11 in_J4 tyJ4_ok nmJ4 hp 2 (by decide) q194 rfl rfl (rfl) (rfl) (Nat.le_of_ble_eq_true rfl) rfl (fun σ16 hc18 hu17 => ?_)
      have hx1 := at_put hu17 hx1 (cell_ne hp hx1 rfl)
      have hz1 := at_put hu17 hz1 (cell_ne hp hz1 rfl)
      have hK := hK.put hu17 (Or.inl rfl)
      refine x_goto (tgt := 40) dJ4_unlink_26 (by decide) ?_
      refine x_aload_n dJ4_unlink_40 1 rfl rfl ?_
      refine x_ifnonnull (tgt := 53) dJ4_unlink_41 (by decide) ?_
      refine x_aload_n dJ4_unlink_53 1 rfl rfl ?_
      refine x_aloadN dJ4_unlink_54 0 rfl ?_
      refine x_put (fs' := [.ref z.2, va_rf (nx ns (i + 1 + 1)), .null]) dJ4_unlink_56 vC_12 in_J26 tyJ26_ok nmJ26 hz1 2 (by decide) q937 rfl rfl (rfl) (rfl) (Nat.le_of_ble_eq_true rfl) rfl (fun σ19 hc21 hu20 => ?_)
      have hc18 := at_put hu20 hc18 (cell_ne hz1 hc18 rfl)
      have hx1 := at_put hu20 hx1 hxz
      have hK := hK.put hu20 (Or.inr (Or.inr rfl))
      refine x_aload_n dJ4_unlink_59 4 rfl rfl ?_
      refine x_null dJ4_unlink_60 ?_
      refine x_put (fs' := [.ref x.2, .null, .null]) dJ4_unlink_61 vC_12 in_J26 tyJ26_ok nmJ26 hx1 1 (by decide) q935 rfl rfl (rfl) (rfl) (Nat.le_of_ble_eq_true rfl) rfl (fun σ22 hc24 hu23 => ?_)
      have hc18 := at_put hu23 hc18 (cell_ne hx1 hc18 rfl)
      have hc21 := at_put hu23 hc21 (fun e => hxz e.symm)
      have hK := hK.put hu23 (Or.inr (Or.inl rfl))
      refine x_aload_n dJ4_unlink_64 4 rfl rfl ?_
      refine x_null dJ4_unlink_65 ?_
      refine x_put (fs' := [.null, .null, .null]) dJ4_unlink_66 vC_12 in_J26 tyJ26_ok nmJ26 hc24 0 (by decide) q932 rfl rfl (rfl) (rfl) (Nat.le_of_ble_eq_true rfl) rfl (fun σ25 hc27 hu26 => ?_)
      have hc18 := at_put hu26 hc18 (cell_ne hc24 hc18 rfl)
      have hc21 := at_put hu26 hc21 (fun e => hxz e.symm)
      have hK := hK.put hu26 (Or.inr (Or.inl rfl))
      refine x_aload_n dJ4_unlink_69 3 rfl rfl ?_
      refine x_dup dJ4_unlink_70 rfl ?_
      refine x_get dJ4_unlink_71 vC_11 in_J4 hc18 1 (by decide) q192 rfl ?_
      refine x_iconst (v := nI 1) dJ4_unlink_74 (by decide) ?_
      refine x_isub dJ4_unlink_75 ?_
      refine x_top (x' := nI (ns.length - 1)) (nI_sub (by omega)) ?_
      refine x_put (fs' := [.int mc, .int (nI (ns.length - 1)), .ref zz, va_rf (pv ns ns.length)]) dJ4_unlink_76 vC_11 in_J4 tyJ4_ok nmJ4 hc18 1 (by decide) q192 rfl rfl (rfl) (rfl) (Nat.le_of_ble_eq_true rfl) rfl (fun σ28 hc30 hu29 => ?_)
      have hc27 := at_put hu29 hc27 (cell_ne hc18 hc27 rfl)
      have hc21 := at_put hu29 hc21 (cell_ne hc18 hc21 rfl)
      have hK := hK.put hu29 (Or.inl rfl)
      refine x_aload_n dJ4_unlink_79 3 rfl rfl ?_
      refine x_dup dJ4_unlink_80 rfl ?_
      refine x_getS (ref := "java/util/LinkedList") dJ4_unlink_81 vC_11 in_J4 hc30 0 (by decide) q173 q169 rfl ?_
      refine x_iconst (v := nI 1) dJ4_unlink_84 (by decide) ?_
      refine x_iadd dJ4_unlink_85 ?_
      refine x_putS (ref := "java/util/LinkedList") (fs' := [.int (mc + (nI 1)), .int (nI (ns.length - 1)), .ref zz, va_rf (pv ns ns.length)]) dJ4_unlink_86 vC_11 in_J4 tyJ4_ok nmJ4 hc30 0 (by decide) q173 q169 rfl rfl (rfl) (rfl) (Nat.le_of_ble_eq_true rfl) rfl (fun σ31 hc33 hu32 => ?_)
      have hc27 := at_put hu32 hc27 (cell_ne hc30 hc27 rfl)
      have hc21 := at_put hu32 hc21 (cell_ne hc30 hc21 rfl)
      have hK := hK.put hu32 (Or.inl rfl)
      refine x_aload_n dJ4_unlink_89 2 rfl rfl ?_
      refine x_aret dJ4_unlink_90 rfl (by first | exact Or.inl ⟨_, rfl⟩ | exact Or.inr ⟨_, rfl⟩) (Or.inr ⟨_, rfl⟩) ⟨_, rfl, rfl, hL.era (i := i) hlt ?_ (fun k u hk hu => ?_), Fr.ofKp hK (fun r hr => ?_)⟩
      · rw [if_pos hi0, show nx ns 1 = some zz by rw [← hnx, hi0]]
        rw [if_neg (show ¬ i + 1 = ns.length by have := get_lt' hz; omega)]
        exact hc33
      · by_cases e1 : k + 1 = i
        · omega
        · rw [if_neg e1]
          by_cases e2 : k = i + 1
          · subst e2
            rw [hz] at hu
            cases hu
            rw [if_pos rfl, hpv, ← hzz]; exact hc21
          · rw [if_neg e2, hK u.1 (fun w => ?_)]
            · exact hL.2.1 k u hu
            · rcases w with w | w | w
              · exact hL.pne hu w
              · exact hk (hL.inj hu hx (w.trans hxx))
              · exact e2 (hL.inj hu hz (w.trans hzz))
      · rcases hr with rfl | rfl | rfl
        · exact wr_ok (Or.inl rfl) hp0 hc33 rfl
        · exact wr_ok (hxx ▸ hL.mem hx) hx0 hc27 rfl
        · exact wr_ok (hzz ▸ hL.mem hz) hz0 hc21 rfl
  · obtain ⟨yy, hyy⟩ : ∃ yy, yy = y.1 := ⟨_, rfl⟩
    have hy1 := hL.2.1 j y hy
    rw [← hyy] at hy1 hpv
    have hy0 := hy1
    have hxy : xx ≠ yy := fun e => by have := hL.inj hx hy (by rw [← hxx, ← hyy]; exact e); omega
    rw [hpv] at hx1
    rcases hnext with ⟨hil, hnx⟩ | ⟨z, hz, hnx⟩
    · skip
      rw [hnx] at hx1
      have hK : Kp (fun r => r = p ∨ r = xx ∨ r = yy) σ σ := Kp.rf
      refine x_aload_n dJ4_unlink_0 1 rfl rfl ?_
      refine x_get dJ4_unlink_1 vC_12 in_J26 hx1 0 (by decide) q932 rfl ?_
      refine x_astore_n (i := 2) (L' := [(2, .ref x.2), (0, .ref p), (1, .ref xx)]) dJ4_unlink_4 rfl (by decide) rfl ?_
      refine x_aload_n dJ4_unlink_5 2 rfl rfl ?_
      refine x_get dJ4_unlink_6 vC_12 in_J26 hx1 1 (by decide) q935 rfl ?_
      refine x_astore_nN (i := 3) (L' := [(3, .null), (2, .ref x.2), (0, .ref p), (1, .ref xx)]) dJ4_unlink_9 rfl (by decide) rfl ?_
      refine x_aload_n dJ4_unlink_10 3 rfl rfl ?_
      refine x_get dJ4_unlink_11 vC_12 in_J26 hx1 2 (by decide) q937 rfl ?_
      refine x_astore (i := 4) (L' := [(4, .ref yy), (3, .null), (2, .ref x.2), (0, .ref p), (1, .ref xx)]) dJ4_unlink_14 (by decide) rfl ?_
      refine x_aload dJ4_unlink_16 0 rfl ?_
      refine x_ifnonnull (tgt := 29) dJ4_unlink_18 (by decide) ?_
      refine x_aload dJ4_unlink_29 0 rfl ?_
      refine x_aload_nN dJ4_unlink_31 1 rfl rfl ?_
      refine x_put (fs' := [.ref y.2, .null, va_rf (pv ns j)]) dJ4_unlink_32 vC_12 in_J26 tyJ26_ok nmJ26 hy1 1 (by decide) q935 rfl rfl (rfl) (rfl) (Nat.le_of_ble_eq_true rfl) rfl (fun σ34 hc36 hu35 => ?_)
      have hp := at_put hu35 hp (cell_ne hy1 hp rfl)
      have hx1 := at_put hu35 hx1 hxy
      have hK := hK.put hu35 (Or.inr (Or.inr rfl))
      refine x_aload_n dJ4_unlink_35 4 rfl rfl ?_
      refine x_null dJ4_unlink_36 ?_
      refine x_put (fs' := [.ref x.2, .null, .null]) dJ4_unlink_37 vC_12 in_J26 tyJ26_ok nmJ26 hx1 2 (by decide) q937 rfl rfl (rfl) (rfl) (Nat.le_of_ble_eq_true rfl) rfl (fun σ37 hc39 hu38 => ?_)
      have hp := at_put hu38 hp (cell_ne hx1 hp rfl)
      have hc36 := at_put hu38 hc36 (fun e => hxy e.symm)
      have hK := hK.put hu38 (Or.inr (Or.inl rfl))
      refine x_aload_nN dJ4_unlink_40 1 rfl rfl ?_
      refine x_ifnonnullN dJ4_unlink_41 ?_
      refine x_aload_n dJ4_unlink_44 3 rfl rfl ?_
      refine x_aload dJ4_unlink_45 0 rfl ?_
      refine x_put (fs' := [.int mc, .int (nI ns.length), va_rf (nx ns 0), .ref yy]) dJ4_unlink_47 vC_11 in_J4 tyJ4_ok nmJ4 hp 3 (by decide) q195 rfl rfl (rfl) (rfl) (Nat.le_of_ble_eq_true rfl) rfl (fun σ40 hc42 hu41 => ?_)
      have hc39 := at_put hu41 hc39 (cell_ne hp hc39 rfl)
      have hc36 := at_put hu41 hc36 (cell_ne hp hc36 rfl)
      have hK := hK.put hu41 (Or.inl rfl)
      refine x_goto (tgt := 64) dJ4_unlink_50 (by decide) ?_
      refine x_aload_n dJ4_unlink_64 4 rfl rfl ?_
      refine x_null dJ4_unlink_65 ?_
      refine x_put (fs' := [.null, .null, .null]) dJ4_unlink_66 vC_12 in_J26 tyJ26_ok nmJ26 hc39 0 (by decide) q932 rfl rfl (rfl) (rfl) (Nat.le_of_ble_eq_true rfl) rfl (fun σ43 hc45 hu44 => ?_)
      have hc42 := at_put hu44 hc42 (cell_ne hc39 hc42 rfl)
      have hc36 := at_put hu44 hc36 (fun e => hxy e.symm)
      have hK := hK.put hu44 (Or.inr (Or.inl rfl))
      refine x_aload_n dJ4_unlink_69 3 rfl rfl ?_
      refine x_dup dJ4_unlink_70 rfl ?_
      refine x_get dJ4_unlink_71 vC_11 in_J4 hc42 1 (by decide) q192 rfl ?_
      refine x_iconst (v := nI 1) dJ4_unlink_74 (by decide) ?_
      refine x_isub dJ4_unlink_75 ?_
      refine x_top (x' := nI (ns.length - 1)) (nI_sub (by omega)) ?_
      refine x_put (fs' := [.int mc, .int (nI (ns.length - 1)), va_rf (nx ns 0), .ref yy]) dJ4_unlink_76 vC_11 in_J4 tyJ4_ok nmJ4 hc42 1 (by decide) q192 rfl rfl (rfl) (rfl) (Nat.le_of_ble_eq_true rfl) rfl (fun σ46 hc48 hu47 => ?_)
      have hc45 := at_put hu47 hc45 (cell_ne hc42 hc45 rfl)
      have hc36 := at_put hu47 hc36 (cell_ne hc42 hc36 rfl)
      have hK := hK.put hu47 (Or.inl rfl)
      refine x_aload_n dJ4_unlink_79 3 rfl rfl ?_
      refine x_dup dJ4_unlink_80 rfl ?_
      refine x_getS (ref := "java/util/LinkedList") dJ4_unlink_81 vC_11 in_J4 hc48 0 (by decide) q173 q169 rfl ?_
      refine x_iconst (v := nI 1) dJ4_unlink_84 (by decide) ?_
      refine x_iadd dJ4_unlink_85 ?_
      refine x_putS (ref := "java/util/LinkedList") (fs' := [.int (mc + (nI 1)), .int (nI (ns.length - 1)), va_rf (nx ns 0), .ref yy]) dJ4_unlink_86 vC_11 in_J4 tyJ4_ok nmJ4 hc48 0 (by decide) q173 q169 rfl rfl (rfl) (rfl) (Nat.le_of_ble_eq_true rfl) rfl (fun σ49 hc51 hu50 => ?_)
      have hc45 := at_put hu50 hc45 (cell_ne hc48 hc45 rfl)
      have hc36 := at_put hu50 hc36 (cell_ne hc48 hc36 rfl)
      have hK := hK.put hu50 (Or.inl rfl)
      refine x_aload_n dJ4_unlink_89 2 rfl rfl ?_
      refine x_aret dJ4_unlink_90 rfl (by first | exact Or.inl ⟨_, rfl⟩ | exact Or.inr ⟨_, rfl⟩) (Or.inr ⟨_, rfl⟩) ⟨_, rfl, rfl, hL.era (i := i) hlt ?_ (fun k u hk hu => ?_), Fr.ofKp hK (fun r hr => ?_)⟩
      · rw [if_neg (show ¬ i = 0 by omega)]
        rw [if_pos hil, hpv]
        exact hc51
      · by_cases e1 : k = j
        · subst e1
          rw [hy] at hu
          cases hu
          rw [if_pos hij.symm, if_neg (show ¬ k = i + 1 by omega), hnx, ← hyy]; exact hc36
        · rw [if_neg (show ¬ k + 1 = i by omega)]
          by_cases e2 : k = i + 1
          · have := get_lt' hu; omega
          · rw [if_neg e2, hK u.1 (fun w => ?_)]
            · exact hL.2.1 k u hu
            · rcases w with w | w | w
              · exact hL.pne hu w
              · exact hk (hL.inj hu hx (w.trans hxx))
              · exact e1 (hL.inj hu hy (w.trans hyy))
      · rcases hr with rfl | rfl | rfl
        · exact wr_ok (Or.inl rfl) hp0 hc51 rfl
        · exact wr_ok (hxx ▸ hL.mem hx) hx0 hc45 rfl
        · exact wr_ok (hyy ▸ hL.mem hy) hy0 hc36 rfl
    · obtain ⟨zz, hzz⟩ : ∃ zz, zz = z.1 := ⟨_, rfl⟩
      have hz1 := hL.2.1 (i + 1) z hz
      rw [← hzz] at hz1 hnx
      have hz0 := hz1
      have hxz : xx ≠ zz := fun e => by have := hL.inj hx hz (by rw [← hxx, ← hzz]; exact e); omega
      have hyz : yy ≠ zz := fun e => by have := hL.inj hy hz (by rw [← hyy, ← hzz]; exact e); omega
      rw [hnx] at hx1
      have hK : Kp (fun r => r = p ∨ r = xx ∨ r = yy ∨ r = zz) σ σ := Kp.rf
      refine x_aload_n dJ4_unlink_0 1 rfl rfl ?_
      refine x_get dJ4_unlink_1 vC_12 in_J26 hx1 0 (by decide) q932 rfl ?_
      refine x_astore_n (i := 2) (L' := [(2, .ref x.2), (0, .ref p), (1, .ref xx)]) dJ4_unlink_4 rfl (by decide) rfl ?_
      refine x_aload_n dJ4_unlink_5 2 rfl rfl ?_
      refine x_get dJ4_unlink_6 vC_12 in_J26 hx1 1 (by decide) q935 rfl ?_
      refine x_astore_n (i := 3) (L' := [(3, .ref zz), (2, .ref x.2), (0, .ref p), (1, .ref xx)]) dJ4_unlink_9 rfl (by decide) rfl ?_
      refine x_aload_n dJ4_unlink_10 3 rfl rfl ?_
      refine x_get dJ4_unlink_11 vC_12 in_J26 hx1 2 (by decide) q937 rfl ?_
      refine x_astore (i := 4) (L' := [(4, .ref yy), (3, .ref zz), (2, .ref x.2), (0, .ref p), (1, .ref xx)]) dJ4_unlink_14 (by decide) rfl ?_
      refine x_aload dJ4_unlink_16 0 rfl ?_
      refine x_ifnonnull (tgt := 29) dJ4_unlink_18 (by decide) ?_
      refine x_aload dJ4_unlink_29 0 rfl ?_
      refine x_aload_n dJ4_unlink_31 1 rfl rfl ?_
      refine x_put (fs' := [.ref y.2, .ref zz, va_rf (pv ns j)]) dJ4_unlink_32 vC_12 in_J26 tyJ26_ok nmJ26 hy1 1 (by decide) q935 rfl rfl (rfl) (rfl) (Nat.le_of_ble_eq_true rfl) rfl (fun σ52 hc54 hu53 => ?_)
      have hp := at_put hu53 hp (cell_ne hy1 hp rfl)
      have hx1 := at_put hu53 hx1 hxy
      have hz1 := at_put hu53 hz1 (fun e => hyz e.symm)
      have hK := hK.put hu53 (Or.inr (Or.inr (Or.inl rfl)))
      refine x_aload_n dJ4_unlink_35 4 rfl rfl ?_
      refine x_null dJ4_unlink_36 ?_
      refine x_put (fs' := [.ref x.2, .ref zz, .null]) dJ4_unlink_37 vC_12 in_J26 tyJ26_ok nmJ26 hx1 2 (by decide) q937 rfl rfl (rfl) (rfl) (Nat.le_of_ble_eq_true rfl) rfl (fun σ55 hc57 hu56 => ?_)
      have hp := at_put hu56 hp (cell_ne hx1 hp rfl)
      have hc54 := at_put hu56 hc54 (fun e => hxy e.symm)
      have hz1 := at_put hu56 hz1 (fun e => hxz e.symm)
      have hK := hK.put hu56 (Or.inr (Or.inl rfl))
      refine x_aload_n dJ4_unlink_40 1 rfl rfl ?_
      refine x_ifnonnull (tgt := 53) dJ4_unlink_41 (by decide) ?_
      refine x_aload_n dJ4_unlink_53 1 rfl rfl ?_
      refine x_aload dJ4_unlink_54 0 rfl ?_
      refine x_put (fs' := [.ref z.2, va_rf (nx ns (i + 1 + 1)), .ref yy]) dJ4_unlink_56 vC_12 in_J26 tyJ26_ok nmJ26 hz1 2 (by decide) q937 rfl rfl (rfl) (rfl) (Nat.le_of_ble_eq_true rfl) rfl (fun σ58 hc60 hu59 => ?_)
      have hp := at_put hu59 hp (cell_ne hz1 hp rfl)
      have hc57 := at_put hu59 hc57 hxz
      have hc54 := at_put hu59 hc54 hyz
      have hK := hK.put hu59 (Or.inr (Or.inr (Or.inr rfl)))
      refine x_aload_n dJ4_unlink_59 4 rfl rfl ?_
      refine x_null dJ4_unlink_60 ?_
      refine x_put (fs' := [.ref x.2, .null, .null]) dJ4_unlink_61 vC_12 in_J26 tyJ26_ok nmJ26 hc57 1 (by decide) q935 rfl rfl (rfl) (rfl) (Nat.le_of_ble_eq_true rfl) rfl (fun σ61 hc63 hu62 => ?_)
      have hp := at_put hu62 hp (cell_ne hc57 hp rfl)
      have hc54 := at_put hu62 hc54 (fun e => hxy e.symm)
      have hc60 := at_put hu62 hc60 (fun e => hxz e.symm)
      have hK := hK.put hu62 (Or.inr (Or.inl rfl))
      refine x_aload_n dJ4_unlink_64 4 rfl rfl ?_
      refine x_null dJ4_unlink_65 ?_
      refine x_put (fs' := [.null, .null, .null]) dJ4_unlink_66 vC_12 in_J26 tyJ26_ok nmJ26 hc63 0 (by decide) q932 rfl rfl (rfl) (rfl) (Nat.le_of_ble_eq_true rfl) rfl (fun σ64 hc66 hu65 => ?_)
      have hp := at_put hu65 hp (cell_ne hc63 hp rfl)
      have hc54 := at_put hu65 hc54 (fun e => hxy e.symm)
      have hc60 := at_put hu65 hc60 (fun e => hxz e.symm)
      have hK := hK.put hu65 (Or.inr (Or.inl rfl))
      refine x_aload_n dJ4_unlink_69 3 rfl rfl ?_
      refine x_dup dJ4_unlink_70 rfl ?_
      refine x_get dJ4_unlink_71 vC_11 in_J4 hp 1 (by decide) q192 rfl ?_
      refine x_iconst (v := nI 1) dJ4_unlink_74 (by decide) ?_
      refine x_isub dJ4_unlink_75 ?_
      refine x_top (x' := nI (ns.length - 1)) (nI_sub (by omega)) ?_
      refine x_put (fs' := [.int mc, .int (nI (ns.length - 1)), va_rf (nx ns 0), va_rf (pv ns ns.length)]) dJ4_unlink_76 vC_11 in_J4 tyJ4_ok nmJ4 hp 1 (by decide) q192 rfl rfl (rfl) (rfl) (Nat.le_of_ble_eq_true rfl) rfl (fun σ67 hc69 hu68 => ?_)
      have hc66 := at_put hu68 hc66 (cell_ne hp hc66 rfl)
      have hc54 := at_put hu68 hc54 (cell_ne hp hc54 rfl)
      have hc60 := at_put hu68 hc60 (cell_ne hp hc60 rfl)
      have hK := hK.put hu68 (Or.inl rfl)
      refine x_aload_n dJ4_unlink_79 3 rfl rfl ?_
      refine x_dup dJ4_unlink_80 rfl ?_
      refine x_getS (ref := "java/util/LinkedList") dJ4_unlink_81 vC_11 in_J4 hc69 0 (by decide) q173 q169 rfl ?_
      refine x_iconst (v := nI 1) dJ4_unlink_84 (by decide) ?_
      refine x_iadd dJ4_unlink_85 ?_
      refine x_putS (ref := "java/util/LinkedList") (fs' := [.int (mc + (nI 1)), .int (nI (ns.length - 1)), va_rf (nx ns 0), va_rf (pv ns ns.length)]) dJ4_unlink_86 vC_11 in_J4 tyJ4_ok nmJ4 hc69 0 (by decide) q173 q169 rfl rfl (rfl) (rfl) (Nat.le_of_ble_eq_true rfl) rfl (fun σ70 hc72 hu71 => ?_)
      have hc66 := at_put hu71 hc66 (cell_ne hc69 hc66 rfl)
      have hc54 := at_put hu71 hc54 (cell_ne hc69 hc54 rfl)
      have hc60 := at_put hu71 hc60 (cell_ne hc69 hc60 rfl)
      have hK := hK.put hu71 (Or.inl rfl)
      refine x_aload_n dJ4_unlink_89 2 rfl rfl ?_
      refine x_aret dJ4_unlink_90 rfl (by first | exact Or.inl ⟨_, rfl⟩ | exact Or.inr ⟨_, rfl⟩) (Or.inr ⟨_, rfl⟩) ⟨_, rfl, rfl, hL.era (i := i) hlt ?_ (fun k u hk hu => ?_), Fr.ofKp hK (fun r hr => ?_)⟩
      · rw [if_neg (show ¬ i = 0 by omega)]
        rw [if_neg (show ¬ i + 1 = ns.length by have := get_lt' hz; omega)]
        exact hc72
      · by_cases e1 : k = j
        · subst e1
          rw [hy] at hu
          cases hu
          rw [if_pos hij.symm, if_neg (show ¬ k = i + 1 by omega), hnx, ← hyy]; exact hc54
        · rw [if_neg (show ¬ k + 1 = i by omega)]
          by_cases e2 : k = i + 1
          · subst e2
            rw [hz] at hu
            cases hu
            rw [if_pos rfl, hpv, ← hzz]; exact hc60
          · rw [if_neg e2, hK u.1 (fun w => ?_)]
            · exact hL.2.1 k u hu
            · rcases w with w | w | w | w
              · exact hL.pne hu w
              · exact hk (hL.inj hu hx (w.trans hxx))
              · exact e1 (hL.inj hu hy (w.trans hyy))
              · exact e2 (hL.inj hu hz (w.trans hzz))
      · rcases hr with rfl | rfl | rfl | rfl
        · exact wr_ok (Or.inl rfl) hp0 hc72 rfl
        · exact wr_ok (hxx ▸ hL.mem hx) hx0 hc66 rfl
        · exact wr_ok (hyy ▸ hL.mem hy) hy0 hc54 rfl
        · exact wr_ok (hzz ▸ hL.mem hz) hz0 hc60 rfl
def LI (σ : AH) (z p : Nat) (mc : Int32) (ns : NL) (j : Nat) (la : Option Nat) : Prop := σ z = some (.inr (13, [va_rf la, va_rf (nx ns j), .int (nI j), .int mc, .ref p]))
theorem LI.ro {σ τ : AH} {z p : Nat} {mc : Int32} {ns : NL} {j : Nat} {la : Option Nat} (h : LI σ z p mc ns j la) (hr : RO σ τ) : LI τ z p mc ns j la := hr _ _ h
theorem LL.other {σ : AH} {p : Nat} {mc : Int32} {ns : NL} (h : LL σ p mc ns) {q : Nat} {e : Ent} (hq : σ q = some e) (ht : Nat.beq (tag e) 11 = false ∧ Nat.beq (tag e) 12 = false) : ¬ LW p ns q := fun hw => by
  rcases hw with rfl | ⟨x, hx, rfl⟩
  · rw [h.1] at hq; cases hq; exact Bool.noConfusion (show true = false from ht.1)
  · obtain ⟨i, hi⟩ := List.getElem?_of_mem hx
    rw [h.2.1 i x hi] at hq; cases hq; exact Bool.noConfusion (show true = false from ht.2)
theorem LL.kp {V : Nat → Prop} {σ τ : AH} {p : Nat} {mc : Int32} {ns : NL} (h : LL σ p mc ns) (hK : Kp V σ τ) (hV : ∀ q, LW p ns q → ¬ V q) : LL τ p mc ns :=
  ⟨(hK p (hV p (Or.inl rfl))).trans h.1, fun i x hx => (hK x.1 (hV _ (h.mem hx))).trans (h.2.1 i x hx), h.2.2⟩
set_option maxHeartbeats 4000000 in
set_option maxRecDepth 100000 in
theorem con_J18_init {l : Launch} {G : YG} {σ : AH} {p : Nat} {mc : Int32} {ns : NL} {z : Nat} (hL : LL σ p mc ns) (hz : σ z = some (.inr (13, [.null, .null, .int 0, .int 0, .null]))) : Con l yJ18_init cJ18_init 3 none G 1 0 0 [.ref z, .ref p, .int (nI 0)] σ (PV fun τ => LI τ z p mc ns 0 none ∧ ∀ r, r ≠ z → τ r = σ r) := by
  refine con_of (by decide) (Nat.le_of_ble_eq_true rfl) ?_
  refine x_locs (L' := [(0, .ref z), (1, .ref p), (2, .int (nI 0))]) [0, 1, 2] rfl ?_
  have hlen := hL.len
  have hp := hL.1
  have hK : Kp (fun r => r = z) σ σ := Kp.rf
  refine x_aload_n dJ18_init_0 0 rfl rfl ?_
  refine x_aload_n dJ18_init_1 1 rfl rfl ?_
  refine x_putF (fs' := [.null, .null, .int 0, .int 0, .ref p]) dJ18_init_2 vC_13 in_J18 tyJ18_ok nmJ18 hz 4 (by decide) q495 rfl rfl rfl rfl (rfl) (rfl) (Nat.le_of_ble_eq_true rfl) rfl (fun σ1 hc3 hu2 => ?_)
  have hp := at_put hu2 hp (cell_ne hz hp rfl)
  have hK := hK.put hu2 rfl
  refine x_aload_n dJ18_init_5 0 rfl rfl ?_
  refine x_objInit dJ18_init_6 q486 q135 q136 ⟨by first | exact Nat.le_of_ble_eq_true rfl | (unfold yroom; simp only; omega), by first | exact Nat.le_of_ble_eq_true rfl | (unfold yroom; simp only; omega)⟩ rfl ?_
  refine x_aload_n dJ18_init_9 0 rfl rfl ?_
  refine x_aload_n dJ18_init_10 0 rfl rfl ?_
  refine x_get dJ18_init_11 vC_13 in_J18 hc3 4 (by decide) q495 rfl ?_
  refine x_getS (ref := "java/util/LinkedList") dJ18_init_14 vC_11 in_J4 hp 0 (by decide) q168 q169 rfl ?_
  refine x_put (fs' := [.null, .null, .int 0, .int mc, .ref p]) dJ18_init_17 vC_13 in_J18 tyJ18_ok nmJ18 hc3 3 (by decide) q494 rfl rfl (rfl) (rfl) (Nat.le_of_ble_eq_true rfl) rfl (fun σ4 hc6 hu5 => ?_)
  have hp := at_put hu5 hp (cell_ne hc3 hp rfl)
  have hK := hK.put hu5 rfl
  refine x_aload_n dJ18_init_20 0 rfl rfl ?_
  refine x_iload_n dJ18_init_21 2 rfl rfl ?_
  refine x_aload_n dJ18_init_22 1 rfl rfl ?_
  refine x_get dJ18_init_23 vC_11 in_J4 hp 1 (by decide) q193 rfl ?_
  refine x_icmp_ne (tgt := 33) dJ18_init_26 (by decide) (fun c1 => ?_) (fun c1 => ?_)
  · have c1 := nNe (by omega) (by omega) c1
    obtain ⟨x, hx⟩ : ∃ x, ns[0]? = some x := ⟨_, List.getElem?_eq_getElem (by omega)⟩
    have hL2 : LL σ4 p mc ns := hL.kp hK (fun q hq e => by subst e; exact hL.other hz ⟨rfl, rfl⟩ hq)
    refine x_aload_n dJ18_init_33 1 rfl rfl ?_
    refine x_iload_n dJ18_init_34 2 rfl rfl ?_
    refine x_callV dJ18_init_35 (con_J4_node hL2 hx) (lw_V q487 q488 q489 q91 q490) (np := 1) (by decide +kernel) rfl hL2.rc ⟨Nat.le_of_ble_eq_true rfl, Nat.le_of_ble_eq_true rfl⟩ (Nat.le_of_ble_eq_true rfl) rfl (by decide) (by decide) (rA fun u σ7 h2 => ?_) nA'
    obtain ⟨rfl, rfl⟩ := h2
    refine x_put (fs' := [.null, .ref x.1, .int 0, .int mc, .ref p]) dJ18_init_38 vC_13 in_J18 tyJ18_ok nmJ18 hc6 1 (by decide) q492 rfl rfl (rfl) (rfl) (Nat.le_of_ble_eq_true rfl) rfl (fun σ8 hc10 hu9 => ?_)
    have hp := at_put hu9 hp (cell_ne hc6 hp rfl)
    have hK := hK.put hu9 rfl
    refine x_aload_n dJ18_init_41 0 rfl rfl ?_
    refine x_iload_n dJ18_init_42 2 rfl rfl ?_
    refine x_put (fs' := [.null, .ref x.1, .int (nI 0), .int mc, .ref p]) dJ18_init_43 vC_13 in_J18 tyJ18_ok nmJ18 hc10 2 (by decide) q493 rfl rfl (rfl) (rfl) (Nat.le_of_ble_eq_true rfl) rfl (fun σ11 hc13 hu12 => ?_)
    have hp := at_put hu12 hp (cell_ne hc10 hp rfl)
    have hK := hK.put hu12 rfl
    exact x_vret dJ18_init_46 rfl (⟨rfl, by have := nx_some hx; unfold LI; rw [this]; exact hc13, hK⟩)
  · have c1 := nEq (by omega) (by omega) c1
    refine x_null dJ18_init_29 ?_
    refine x_goto (tgt := 38) dJ18_init_30 (by decide) ?_
    refine x_put (fs' := [.null, .null, .int 0, .int mc, .ref p]) dJ18_init_38 vC_13 in_J18 tyJ18_ok nmJ18 hc6 1 (by decide) q492 rfl rfl (rfl) (rfl) (Nat.le_of_ble_eq_true rfl) rfl (fun σ14 hc16 hu15 => ?_)
    have hp := at_put hu15 hp (cell_ne hc6 hp rfl)
    have hK := hK.put hu15 rfl
    refine x_aload_n dJ18_init_41 0 rfl rfl ?_
    refine x_iload_n dJ18_init_42 2 rfl rfl ?_
    refine x_put (fs' := [.null, .null, .int (nI 0), .int mc, .ref p]) dJ18_init_43 vC_13 in_J18 tyJ18_ok nmJ18 hc16 2 (by decide) q493 rfl rfl (rfl) (rfl) (Nat.le_of_ble_eq_true rfl) rfl (fun σ17 hc19 hu18 => ?_)
    have hp := at_put hu18 hp (cell_ne hc16 hp rfl)
    have hK := hK.put hu18 rfl
    exact x_vret dJ18_init_46 rfl (⟨rfl, by have := nx_none (ns := ns) (i := 0) (by omega); unfold LI; rw [this]; exact hc19, hK⟩)
set_option maxHeartbeats 4000000 in
set_option maxRecDepth 100000 in
theorem con_J4_listIterator {l : Launch} {G : YG} {σ : AH} {p : Nat} {mc : Int32} {ns : NL} (hL : LL σ p mc ns) : Con l yJ4_listIterator cJ4_listIterator 2 (some (FieldType.object "java/util/ListIterator")) G 2 1 5 [.ref p, .int (nI 0)] σ (PA fun z τ => σ z = none ∧ LI τ z p mc ns 0 none ∧ RO σ τ) := by
  refine con_of (by decide) (Nat.le_of_ble_eq_true rfl) ?_
  refine x_locs (L' := [(0, .ref p), (1, .int (nI 0))]) [0, 1] rfl ?_
  refine x_aload_n dJ4_listIterator_0 0 rfl rfl ?_
  refine x_iload_n dJ4_listIterator_1 1 rfl rfl ?_
  refine x_callV dJ4_listIterator_2 (con_J4_checkPositionIndex hL (i := 0) (Nat.zero_le _)) (lw_V q473 q475 qs4 q91 q476) (np := 1) (by decide +kernel) rfl hL.rc ⟨Nat.le_of_ble_eq_true rfl, Nat.le_of_ble_eq_true rfl⟩ (Nat.le_of_ble_eq_true rfl) rfl (Nat.zero_le _) (Nat.zero_le _) (rV fun σ1 h1 => ?_) nV'
  subst h1
  refine x_new (fs := [.null, .null, .int 0, .int 0, .null]) dJ4_listIterator_5 vC_13 in_J18 tyJ18_ok q481 q482 q108 rfl (by omega) (by omega) (fun z σ3 hn4 hb5 hc6 hu7 => ?_)
  have hL2 := hL.ro (ro_new hn4 hu7)
  refine x_dup dJ4_listIterator_8 rfl ?_
  refine x_aload_n dJ4_listIterator_9 0 rfl rfl ?_
  refine x_iload_n dJ4_listIterator_10 1 rfl rfl ?_
  refine x_callI dJ4_listIterator_11 (con_J18_init hL2 hc6) (lw_meth q485) q108 q483 q484 rfl (np := 2) (by decide +kernel) rfl ⟨Nat.le_of_ble_eq_true rfl, Nat.le_of_ble_eq_true rfl⟩ (Nat.le_of_ble_eq_true rfl) rfl (Nat.zero_le _) (Nat.zero_le _) (rV fun σ8 h2 => ?_) nV'
  exact x_aret dJ4_listIterator_14 rfl (by first | exact Or.inl ⟨_, rfl⟩ | exact Or.inr ⟨_, rfl⟩) (Or.inr ⟨_, rfl⟩) (⟨_, rfl, hn4, h2.1, ro_new hn4 (fun q hq => (h2.2 q hq).trans (hu7 q hq))⟩)
set_option maxHeartbeats 4000000 in
set_option maxRecDepth 100000 in
theorem con_J1_listIterator {l : Launch} {G : YG} {σ : AH} {p : Nat} {mc : Int32} {ns : NL} (hL : LL σ p mc ns) : Con l yJ1_listIterator cJ1_listIterator 1 (some (FieldType.object "java/util/ListIterator")) G 3 1 5 [.ref p] σ (PA fun z τ => σ z = none ∧ LI τ z p mc ns 0 none ∧ RO σ τ) := by
  refine con_of (by decide) (Nat.le_of_ble_eq_true rfl) ?_
  refine x_locs (L' := [(0, .ref p)]) [0] rfl ?_
  refine x_aload_n dJ1_listIterator_0 0 rfl rfl ?_
  refine x_iconst (v := nI 0) dJ1_listIterator_1 (by decide) ?_
  refine x_callA dJ1_listIterator_2 (con_J4_listIterator hL) (lw_U q433 q435 q470 q471 q91 q472) q507 (np := 1) (by decide +kernel) rfl hL.rc ⟨Nat.le_of_ble_eq_true rfl, Nat.le_of_ble_eq_true rfl⟩ (Nat.le_of_ble_eq_true rfl) rfl (Nat.le_refl _) (Nat.le_refl _) (rA fun z σ1 h1 => ?_) nA'
  exact x_aret dJ1_listIterator_5 rfl (by first | exact Or.inl ⟨_, rfl⟩ | exact Or.inr ⟨_, rfl⟩) (Or.inr ⟨_, rfl⟩) (⟨_, rfl, h1⟩)
set_option maxHeartbeats 4000000 in
set_option maxRecDepth 100000 in
theorem con_J3_iterator {l : Launch} {G : YG} {σ : AH} {p : Nat} {mc : Int32} {ns : NL} (hL : LL σ p mc ns) : Con l yJ3_iterator cJ3_iterator 1 (some (FieldType.object "java/util/Iterator")) G 4 1 5 [.ref p] σ (PA fun z τ => σ z = none ∧ LI τ z p mc ns 0 none ∧ RO σ τ) := by
  refine con_of (by decide) (Nat.le_of_ble_eq_true rfl) ?_
  refine x_locs (L' := [(0, .ref p)]) [0] rfl ?_
  refine x_aload_n dJ3_iterator_0 0 rfl rfl ?_
  refine x_callU dJ3_iterator_1 (con_J1_listIterator hL) (lw_U q427 q428 q430 q431 q88 q432) rfl (np := 0) (by decide +kernel) rfl hL.rc ⟨Nat.le_of_ble_eq_true rfl, Nat.le_of_ble_eq_true rfl⟩ (Nat.le_of_ble_eq_true rfl) rfl (Nat.le_refl _) (Nat.le_refl _) (rA fun z σ1 h1 => ?_) nA'
  exact x_aret dJ3_iterator_4 rfl (by first | exact Or.inl ⟨_, rfl⟩ | exact Or.inr ⟨_, rfl⟩) (Or.inr ⟨_, rfl⟩) (⟨_, rfl, h1⟩)
theorem fits_rf {C : String} (r : Option Nat) : fits (.object C) (va_rf r) = true := by cases r <;> rfl
theorem nar_rf {C : String} (r : Option Nat) : narrow (.object C) (va_rf r) = va_rf r := by cases r <;> rfl
set_option maxHeartbeats 4000000 in
set_option maxRecDepth 100000 in
theorem con_J18_hasNext {l : Launch} {G : YG} {σ : AH} {p : Nat} {mc : Int32} {ns : NL} {z j : Nat} {la : Option Nat} (hL : LL σ p mc ns) (hz : LI σ z p mc ns j la) (hj : j ≤ ns.length) : Con l yJ18_hasNext cJ18_hasNext 1 (some FieldType.boolean) G 0 0 0 [.ref z] σ (PS σ (bI (decide (j < ns.length)))) := by
  refine con_of (by decide) (Nat.le_of_ble_eq_true rfl) ?_
  refine x_locs (L' := [(0, .ref z)]) [0] rfl ?_
  have hlen := hL.len
  have hp := hL.1
  unfold LI at hz
  refine x_aload_n dJ18_hasNext_0 0 rfl rfl ?_
  refine x_get dJ18_hasNext_1 vC_13 in_J18 hz 2 (by decide) q493 rfl ?_
  refine x_aload_n dJ18_hasNext_4 0 rfl rfl ?_
  refine x_get dJ18_hasNext_5 vC_13 in_J18 hz 4 (by decide) q495 rfl ?_
  refine x_get dJ18_hasNext_8 vC_11 in_J4 hp 1 (by decide) q193 rfl ?_
  refine x_icmp_ge (tgt := 18) dJ18_hasNext_11 (by decide) (fun c1 => ?_) (fun c1 => ?_)
  · have c1 := nLe (by omega) (by omega) c1
    refine x_iconst (v := nI 0) dJ18_hasNext_18 (by decide) ?_
    exact x_zret dJ18_hasNext_19 rfl (rfl) (pS' (by rw [decide_eq_false (by omega)]; rfl))
  · have c1 := nNle (by omega) (by omega) c1
    refine x_iconst (v := nI 1) dJ18_hasNext_14 (by decide) ?_
    refine x_goto (tgt := 19) dJ18_hasNext_15 (by decide) ?_
    exact x_zret dJ18_hasNext_19 rfl (rfl) (pS' (by rw [decide_eq_true (by omega)]; rfl))
set_option maxHeartbeats 4000000 in
set_option maxRecDepth 100000 in
theorem con_J18_checkForComodification {l : Launch} {G : YG} {σ : AH} {p : Nat} {mc : Int32} {ns : NL} {z j : Nat} {la : Option Nat} (hL : LL σ p mc ns) (hz : LI σ z p mc ns j la) : Con l yJ18_checkForComodification cJ18_checkForComodification 1 none G 0 0 0 [.ref z] σ (PV fun τ => τ = σ) := by
  refine con_of (by decide) (Nat.le_of_ble_eq_true rfl) ?_
  refine x_locs (L' := [(0, .ref z)]) [0] rfl ?_
  have hp := hL.1
  unfold LI at hz
  refine x_aload_n dJ18_checkForComodification_0 0 rfl rfl ?_
  refine x_get dJ18_checkForComodification_1 vC_13 in_J18 hz 4 (by decide) q495 rfl ?_
  refine x_getS (ref := "java/util/LinkedList") dJ18_checkForComodification_4 vC_11 in_J4 hp 0 (by decide) q168 q169 rfl ?_
  refine x_aload_n dJ18_checkForComodification_7 0 rfl rfl ?_
  refine x_get dJ18_checkForComodification_8 vC_13 in_J18 hz 3 (by decide) q494 rfl ?_
  refine x_icmp_eq (tgt := 22) dJ18_checkForComodification_11 (by decide) (fun _ => ?_) (fun h_ => absurd (rfl) h_)
  exact x_vret dJ18_checkForComodification_22 rfl (⟨rfl, rfl⟩)
set_option maxHeartbeats 4000000 in
set_option maxRecDepth 100000 in
theorem con_J18_next {l : Launch} {G : YG} {σ : AH} {p : Nat} {mc : Int32} {ns : NL} {z j : Nat} {la : Option Nat} {x : Nat × Nat} (hL : LL σ p mc ns) (hz : LI σ z p mc ns j la) (hx : ns[j]? = some x) : Con l yJ18_next cJ18_next 1 (some (FieldType.object "java/lang/Object")) G 1 0 0 [.ref z] σ (PA fun u τ => u = x.2 ∧ LI τ z p mc ns (j + 1) (some x.1) ∧ ∀ r, r ≠ z → τ r = σ r) := by
  refine con_of (by decide) (Nat.le_of_ble_eq_true rfl) ?_
  refine x_locs (L' := [(0, .ref z)]) [0] rfl ?_
  have hlen := hL.len
  have hlt := get_lt' hx
  have hp := hL.1
  have hx1 := hL.2.1 j x hx
  obtain ⟨xx, hxx⟩ : ∃ xx, xx = x.1 := ⟨_, rfl⟩
  rw [← hxx] at hx1
  have hzI := hz
  unfold LI at hz
  rw [nx_some hx, ← hxx] at hz
  refine x_aload_n dJ18_next_0 0 rfl rfl ?_
  refine x_callV dJ18_next_1 (con_J18_checkForComodification hL hzI) (lw_V q910 q911 q912 q108 q913) (np := 0) (by decide +kernel) rfl (rcv_of vC_13 hzI) ⟨Nat.le_of_ble_eq_true rfl, Nat.le_of_ble_eq_true rfl⟩ (Nat.le_of_ble_eq_true rfl) rfl (by decide) (by decide) (rV fun σ1 h1 => ?_) nV'
  subst h1
  refine x_aload_n dJ18_next_4 0 rfl rfl ?_
  refine x_callV dJ18_next_5 (con_J18_hasNext hL hzI (Nat.le_of_lt hlt)) (lw_V q914 q551 q2257 q108 q553) (np := 0) (by decide +kernel) rfl (rcv_of vC_13 hzI) ⟨Nat.le_of_ble_eq_true rfl, Nat.le_of_ble_eq_true rfl⟩ (Nat.le_of_ble_eq_true rfl) rfl (by decide) (by decide) (rS ?_) nI'
  refine x_top (x' := 1) (by rw [decide_eq_true hlt]; rfl) ?_
  refine x_if_ne (tgt := 19) dJ18_next_8 (by decide) (fun _ => ?_) (fun h_ => absurd h_ (by decide))
  have hK : Kp (fun r => r = z) σ1 σ1 := Kp.rf
  refine x_aload_n dJ18_next_19 0 rfl rfl ?_
  refine x_aload_n dJ18_next_20 0 rfl rfl ?_
  refine x_get dJ18_next_21 vC_13 in_J18 hz 1 (by decide) q492 rfl ?_
  refine x_put (fs' := [.ref xx, .ref xx, .int (nI j), .int mc, .ref p]) dJ18_next_24 vC_13 in_J18 tyJ18_ok nmJ18 hz 0 (by decide) q491 rfl rfl (rfl) (rfl) (Nat.le_of_ble_eq_true rfl) rfl (fun σ4 hc6 hu5 => ?_)
  have hp := at_put hu5 hp (cell_ne hz hp rfl)
  have hx1 := at_put hu5 hx1 (cell_ne hz hx1 rfl)
  have hK := hK.put hu5 rfl
  refine x_aload_n dJ18_next_27 0 rfl rfl ?_
  refine x_aload_n dJ18_next_28 0 rfl rfl ?_
  refine x_get dJ18_next_29 vC_13 in_J18 hc6 1 (by decide) q492 rfl ?_
  refine x_get dJ18_next_32 vC_12 in_J26 hx1 1 (by decide) q934 rfl ?_
  refine x_put (fs' := [.ref xx, va_rf (nx ns (j + 1)), .int (nI j), .int mc, .ref p]) dJ18_next_35 vC_13 in_J18 tyJ18_ok nmJ18 hc6 1 (by decide) q492 rfl rfl (nar_rf _) (fits_rf _) (Nat.le_of_ble_eq_true rfl) rfl (fun σ7 hc9 hu8 => ?_)
  have hp := at_put hu8 hp (cell_ne hc6 hp rfl)
  have hx1 := at_put hu8 hx1 (cell_ne hc6 hx1 rfl)
  have hK := hK.put hu8 rfl
  refine x_aload_n dJ18_next_38 0 rfl rfl ?_
  refine x_dup dJ18_next_39 rfl ?_
  refine x_get dJ18_next_40 vC_13 in_J18 hc9 2 (by decide) q493 rfl ?_
  refine x_iconst (v := nI 1) dJ18_next_43 (by decide) ?_
  refine x_iadd dJ18_next_44 ?_
  refine x_top (x' := nI (j + 1)) (nI_add _ _) ?_
  refine x_put (fs' := [.ref xx, va_rf (nx ns (j + 1)), .int (nI (j + 1)), .int mc, .ref p]) dJ18_next_45 vC_13 in_J18 tyJ18_ok nmJ18 hc9 2 (by decide) q493 rfl rfl (rfl) (rfl) (Nat.le_of_ble_eq_true rfl) rfl (fun σ10 hc12 hu11 => ?_)
  have hp := at_put hu11 hp (cell_ne hc9 hp rfl)
  have hx1 := at_put hu11 hx1 (cell_ne hc9 hx1 rfl)
  have hK := hK.put hu11 rfl
  refine x_aload_n dJ18_next_48 0 rfl rfl ?_
  refine x_get dJ18_next_49 vC_13 in_J18 hc12 0 (by decide) q491 rfl ?_
  refine x_get dJ18_next_52 vC_12 in_J26 hx1 0 (by decide) q931 rfl ?_
  exact x_aret dJ18_next_55 rfl (by first | exact Or.inl ⟨_, rfl⟩ | exact Or.inr ⟨_, rfl⟩) (Or.inr ⟨_, rfl⟩) (⟨_, rfl, rfl, by unfold LI; rw [← hxx]; exact hc12, hK⟩)
