set_option maxRecDepth 100000
abbrev PR (σ : AH) (P : Int32 → Prop) : YR → AH → Prop := PI fun z τ => τ = σ ∧ P z
theorem rR {l : Launch} {y : MethodName} {cc : ByteArray} {nL : Nat} {ret : Option FieldType} {hh : List (Nat × Nat × Nat × Nat)} {G : YG} {R : Room} {Z : YE} {L : List (Nat × Value)} {rest : List Value} {σ : AH} {P : Int32 → Prop} {pcn k' n' : Nat} (h : ∀ z : Int32, P z → X l y cc nL ret hh G R Z pcn L (.int z :: rest) σ k' n') : ∀ (v : Option Value) (τ : AH), PR σ P (.inl v) τ → X l y cc nL ret hh G R Z pcn L (v.toList ++ rest) τ k' n' := fun v τ ⟨z, e, e1, e2⟩ => by
  cases e
  subst e1
  exact h z e2
theorem pR {σ : AH} {P : Int32 → Prop} {w : Int32} (h : P w) : PR σ P (.inl (some (.int w))) σ := ⟨w, rfl, rfl, h⟩
set_option maxHeartbeats 4000000 in
set_option maxRecDepth 100000 in
theorem con_X2_waitsFor {l : Launch} {G : YG} {σ : AH} {a : Nat} {ad : Nat → Nat} {M : MS} {S : AS} {m : Nat} (hM : MAt σ a ad M) (hG : GR (M.1 0) S) (hI : IV S) (hm : m < nC S) : Con l yX2_waitsFor cX2_waitsFor 5 (some FieldType.int) G 1 0 0 [.ref a, .int (nI m)] σ (PR σ (fun z => BS z (edge S m))) := by
  refine con_of (by decide) (Nat.le_of_ble_eq_true rfl) ?_
  refine x_locs (L' := [(0, .ref a), (1, .int (nI m))]) [0, 1] rfl ?_
  have hC := hI.c
  have hm24 : m < 24 := by omega
  refine x_aload_n dX2_waitsFor_0 0 rfl rfl ?_
  refine x_iload_n dX2_waitsFor_1 1 rfl rfl ?_
  refine x_iconst (v := nI 1) dX2_waitsFor_2 (by decide) ?_
  refine x_callV dX2_waitsFor_3 (con_X2_of hM (m := m) (w := 1) hm24 (by decide)) (lw_V q1966 q1968 qs44 q101 q1969) (np := 2) (by decide +kernel) rfl (rcv_of vC_2 hM.1) ⟨Nat.le_of_ble_eq_true rfl, Nat.le_of_ble_eq_true rfl⟩ (Nat.le_of_ble_eq_true rfl) rfl (by decide) (by decide) (rS ?_) nI'
  refine x_top (x' := atI S m) ((hG.2.2.1 m hm).1) ?_
  cases ha : aAt S m with
  | none =>
    refine x_top (atI_none ha) ?_
    refine x_istore_n (i := 2) (L' := [(2, .int (-1)), (0, .ref a), (1, .int (nI m))]) dX2_waitsFor_6 rfl (by decide) rfl ?_
    refine x_iconst (v := nI 0) dX2_waitsFor_7 (by decide) ?_
    refine x_istore_n (i := 3) (L' := [(3, .int (nI 0)), (2, .int (-1)), (0, .ref a), (1, .int (nI m))]) dX2_waitsFor_8 rfl (by decide) rfl ?_
    refine x_iload_n dX2_waitsFor_9 1 rfl rfl ?_
    refine x_if_ge (tgt := 15) dX2_waitsFor_10 (by decide) (fun h_ => absurd h_ (by decide)) (fun _ => ?_)
    refine x_iconst (v := nI 0) dX2_waitsFor_13 (by decide) ?_
    exact x_iret dX2_waitsFor_14 rfl (pR (BS.zero.to (fun i _ => (edge_none ha).symm)))
  | some s =>
    refine x_top (atI_some ha) ?_
    have hs : s < 8 := (aAt_some ha).1
    have hl8 := hI.len hs
    obtain ⟨w0, hw0⟩ := (aAt_some ha).2
    have hin : inRow m (qu S s) = true := by rw [inRow_wish, hw0]; rfl
    have hed : ∀ o, edge S m o = _ := fun o => edge_at ha
    obtain ⟨P, hP⟩ : ∃ P : Nat → Bool, P = fun o => !(o == m) && (hw S o s == 2 || (hw S o s == 1 && kindOf S m == 2)) := ⟨_, rfl⟩
    have hk12 : kindOf S m = 1 ∨ kindOf S m = 2 := by
      have := (hI.w hs (wishIn_some hw0).1).2.1
      unfold kindOf aWish
      rw [ha]
      simp only
      rw [hw0]
      exact this
    refine x_istore_n (i := 2) (L' := [(2, .int (nI s)), (0, .ref a), (1, .int (nI m))]) dX2_waitsFor_6 rfl (by decide) rfl ?_
    refine x_iconst (v := nI 0) dX2_waitsFor_7 (by decide) ?_
    refine x_istore_n (i := 3) (L' := [(3, .int (nI 0)), (2, .int (nI s)), (0, .ref a), (1, .int (nI m))]) dX2_waitsFor_8 rfl (by decide) rfl ?_
    refine x_iload_n dX2_waitsFor_9 1 rfl rfl ?_
    refine x_if_ge (tgt := 15) dX2_waitsFor_10 (by decide) (fun _ => ?_) (fun h_ => absurd (nI_pos' (by omega)) h_)
    refine x_iconst (v := nI 0) dX2_waitsFor_15 (by decide) ?_
    refine x_istore (i := 4) (L' := [(4, .int (nI 0)), (3, .int (nI 0)), (2, .int (nI s)), (0, .ref a), (1, .int (nI m))]) dX2_waitsFor_16 (by decide) rfl ?_
    refine x_locs (L' := [(0, .ref a), (1, .int (nI m)), (2, .int (nI s)), (3, .int (nI 0)), (4, .int (nI 0))]) [3, 4, 2, 1, 0] rfl ?_
    have join : ∀ (d k : Nat) (z : Int32), k + d = (aheadL m (qu S s)).length → BS z (fun i => (decide (i < nC S) && P i) || ((aheadL m (qu S s)).take k).contains i) → X l yX2_waitsFor cX2_waitsFor 5 (some FieldType.int) [] G (yroom 1 0 0) (yEnd G (yroom 1 0 0) (PR σ (fun z => BS z (edge S m)))) 83 [(0, .ref a), (1, .int (nI m)), (2, .int (nI s)), (3, .int z), (4, .int (nI k))] [] σ 0 0 := by
      intro d
      induction d with
      | zero =>
        intro k z hk hz
        obtain ⟨x, hx, hxm⟩ := aheadL_end hin
        have hkl : k = (aheadL m (qu S s)).length := by omega
        rw [← hkl] at hx
        have hx8 : k < 8 := Nat.lt_of_lt_of_le (List.getElem?_eq_some_iff.mp hx).1 hl8
        refine x_aload_n dX2_waitsFor_83 0 rfl rfl ?_
        refine x_iload_n dX2_waitsFor_84 2 rfl rfl ?_
        refine x_iconst (v := nI 3) dX2_waitsFor_85 (by decide) ?_
        refine x_iload dX2_waitsFor_86 4 rfl ?_
        refine x_iadd dX2_waitsFor_88 ?_
        refine x_top (x' := nI (3 + k)) (nI_add _ _) ?_
        refine x_callV dX2_waitsFor_89 (con_X2_shelf hM (s := s) (w := 3 + k) hs (by omega)) (lw_V q1989 q1991 qs49 q101 q1992) (np := 2) (by decide +kernel) rfl (rcv_of vC_2 hM.1) ⟨Nat.le_of_ble_eq_true rfl, Nat.le_of_ble_eq_true rfl⟩ (Nat.le_of_ble_eq_true rfl) rfl (by decide) (by decide) (rS ?_) nI'
        refine x_top (x' := nI x.1) (hG.2.2.2.2.2 s k x hs hx) ?_
        refine x_iload_n dX2_waitsFor_92 1 rfl rfl ?_
        refine x_icmp_eq (tgt := 116) dX2_waitsFor_93 (by decide) (fun _ => ?_) (fun h_ => absurd (by rw [hxm]) h_)
        refine x_iload_n dX2_waitsFor_116 3 rfl rfl ?_
        exact x_iret dX2_waitsFor_117 rfl (pR (hz.to (fun i _ => by rw [hed, hP, hkl, List.take_length]; simp only [Bool.and_assoc])))
      | succ d ih =>
        intro k z hk hz
        obtain ⟨x, hx, hxm, hxa⟩ := aheadL_get (m := m) (r := qu S s) (k := k) (by omega)
        have hx24 : x.1 < 24 := by have := hI.th (hI.w hs (List.mem_of_getElem? hx)).1; omega
        have hx8 : k < 8 := Nat.lt_of_lt_of_le (List.getElem?_eq_some_iff.mp hx).1 hl8
        refine x_aload_n dX2_waitsFor_83 0 rfl rfl ?_
        refine x_iload_n dX2_waitsFor_84 2 rfl rfl ?_
        refine x_iconst (v := nI 3) dX2_waitsFor_85 (by decide) ?_
        refine x_iload dX2_waitsFor_86 4 rfl ?_
        refine x_iadd dX2_waitsFor_88 ?_
        refine x_top (x' := nI (3 + k)) (nI_add _ _) ?_
        refine x_callV dX2_waitsFor_89 (con_X2_shelf hM (s := s) (w := 3 + k) hs (by omega)) (lw_V q1989 q1991 qs49 q101 q1992) (np := 2) (by decide +kernel) rfl (rcv_of vC_2 hM.1) ⟨Nat.le_of_ble_eq_true rfl, Nat.le_of_ble_eq_true rfl⟩ (Nat.le_of_ble_eq_true rfl) rfl (by decide) (by decide) (rS ?_) nI'
        refine x_top (x' := nI x.1) (hG.2.2.2.2.2 s k x hs hx) ?_
        refine x_iload_n dX2_waitsFor_92 1 rfl rfl ?_
        refine x_icmp_eq (tgt := 116) dX2_waitsFor_93 (by decide) (fun h_ => absurd h_ (fun h => hxm (nEq (by omega) (by omega) h))) (fun _ => ?_)
        refine x_iload_n dX2_waitsFor_96 3 rfl rfl ?_
        refine x_iconst (v := nI 1) dX2_waitsFor_97 (by decide) ?_
        refine x_aload_n dX2_waitsFor_98 0 rfl rfl ?_
        refine x_iload_n dX2_waitsFor_99 2 rfl rfl ?_
        refine x_iconst (v := nI 3) dX2_waitsFor_100 (by decide) ?_
        refine x_iload dX2_waitsFor_101 4 rfl ?_
        refine x_iadd dX2_waitsFor_103 ?_
        refine x_top (x' := nI (3 + k)) (nI_add _ _) ?_
        refine x_callV dX2_waitsFor_104 (con_X2_shelf hM (s := s) (w := 3 + k) hs (by omega)) (lw_V q1989 q1991 qs49 q101 q1992) (np := 2) (by decide +kernel) rfl (rcv_of vC_2 hM.1) ⟨Nat.le_of_ble_eq_true rfl, Nat.le_of_ble_eq_true rfl⟩ (Nat.le_of_ble_eq_true rfl) rfl (by decide) (by decide) (rS ?_) nI'
        refine x_top (x' := nI x.1) (hG.2.2.2.2.2 s k x hs hx) ?_
        refine x_ishl dX2_waitsFor_107 ?_
        refine x_ior dX2_waitsFor_108 ?_
        refine x_istore_n (i := 3) (L' := [(3, .int (z ||| ((nI 1) <<< ((nI x.1) &&& 31)))), (0, .ref a), (1, .int (nI m)), (2, .int (nI s)), (4, .int (nI k))]) dX2_waitsFor_109 rfl (by decide) rfl ?_
        refine x_iinc (i := 4) (q := 4) (v := nI (k + 1)) (L' := [(4, .int (nI (k + 1))), (3, .int (z ||| ((nI 1) <<< ((nI x.1) &&& 31)))), (0, .ref a), (1, .int (nI m)), (2, .int (nI s))]) dX2_waitsFor_110 rfl (nI_1 _) (by decide) rfl ?_
        refine x_goto (tgt := 83) dX2_waitsFor_113 (by decide) ?_
        refine x_locs (L' := [(0, .ref a), (1, .int (nI m)), (2, .int (nI s)), (3, .int (z ||| ((nI 1) <<< ((nI x.1) &&& 31)))), (4, .int (nI (k + 1)))]) [2, 3, 4, 1, 0] rfl ?_
        refine ih (k + 1) _ (by omega) ((hz.or (BS.one hx24)).to (fun i _ => ?_))
        rw [take_succ_getElem? hxa, List.contains_eq_mem, List.contains_eq_mem]
        by_cases e : i = x.1
        · subst e; simp
        · simp [e]
    suffices loop : ∀ (d i : Nat) (z : Int32), i + d = nC S → BS z (fun j => decide (j < i) && P j) → X l yX2_waitsFor cX2_waitsFor 5 (some FieldType.int) [] G (yroom 1 0 0) (yEnd G (yroom 1 0 0) (PR σ (fun z => BS z (edge S m)))) 18 [(0, .ref a), (1, .int (nI m)), (2, .int (nI s)), (3, .int z), (4, .int (nI i))] [] σ 0 0 from loop (nC S) 0 _ (by omega) (BS.zero.to (fun i _ => by simp))
    intro d
    induction d with
    | zero =>
      intro i z hi hz
      have hin2 : i = nC S := by omega
      subst hin2
      refine x_iload dX2_waitsFor_18 4 rfl ?_
      refine x_aload_n dX2_waitsFor_20 0 rfl rfl ?_
      refine x_get dX2_waitsFor_21 vC_2 in_X2 hM.1 0 (by decide) q1876 rfl ?_
      refine x_iconst (v := nI 0) dX2_waitsFor_24 (by decide) ?_
      refine x_iald (N := 429) (j := 0) (v := nI (nC S)) dX2_waitsFor_25 (hM.2.1 0 rfl) (rfl) (by decide) (by decide) (hG.c) ?_
      refine x_icmp_ge (tgt := 80) dX2_waitsFor_26 (by decide) (fun _ => ?_) (fun h_ => absurd ((nI_leI (by omega) (by omega)).mpr (Nat.le_refl _)) h_)
      refine x_iconst (v := nI 0) dX2_waitsFor_80 (by decide) ?_
      refine x_istore (i := 4) (L' := [(4, .int (nI 0)), (0, .ref a), (1, .int (nI m)), (2, .int (nI s)), (3, .int z)]) dX2_waitsFor_81 (by decide) rfl ?_
      refine x_locs (L' := [(0, .ref a), (1, .int (nI m)), (2, .int (nI s)), (3, .int z), (4, .int (nI 0))]) [1, 2, 3, 4, 0] rfl ?_
      exact join _ 0 z (Nat.zero_add _) (hz.to (fun i _ => by simp))
    | succ d ih =>
      intro i z hi hz
      have hw2 := hI.2.2.1 i s
      have hPi : P i = (!(i == m) && (hw S i s == 2 || (hw S i s == 1 && kindOf S m == 2))) := by rw [hP]
      have step : ∀ z', BS z' (fun j => (decide (j < i) && P j) || (P i && j == i)) → X l yX2_waitsFor cX2_waitsFor 5 (some FieldType.int) [] G (yroom 1 0 0) (yEnd G (yroom 1 0 0) (PR σ (fun z => BS z (edge S m)))) 18 [(0, .ref a), (1, .int (nI m)), (2, .int (nI s)), (3, .int z'), (4, .int (nI (i + 1)))] [] σ 0 0 := fun z' h => ih (i + 1) z' (by omega) (h.to (fun j _ => by
        by_cases e : j = i
        · subst e; simp
        · have : (decide (j < i + 1)) = decide (j < i) := by
            by_cases q : j < i
            · simp [q]; omega
            · simp [q]; omega
          simp [e, this]))
      refine x_iload dX2_waitsFor_18 4 rfl ?_
      refine x_aload_n dX2_waitsFor_20 0 rfl rfl ?_
      refine x_get dX2_waitsFor_21 vC_2 in_X2 hM.1 0 (by decide) q1876 rfl ?_
      refine x_iconst (v := nI 0) dX2_waitsFor_24 (by decide) ?_
      refine x_iald (N := 429) (j := 0) (v := nI (nC S)) dX2_waitsFor_25 (hM.2.1 0 rfl) (rfl) (by decide) (by decide) (hG.c) ?_
      refine x_icmp_ge (tgt := 80) dX2_waitsFor_26 (by decide) (fun h_ => absurd h_ (fun h => absurd (nLe (by omega) (by omega) h) (by omega))) (fun _ => ?_)
      refine x_iload dX2_waitsFor_29 4 rfl ?_
      refine x_iload_n dX2_waitsFor_31 1 rfl rfl ?_
      refine x_icmp_eq (tgt := 74) dX2_waitsFor_32 (by decide) (fun c1 => ?_) (fun c1 => ?_)
      · have c1 := nEq (by omega) (by omega) c1
        refine x_iinc (i := 4) (q := 4) (v := nI (i + 1)) (L' := [(4, .int (nI (i + 1))), (0, .ref a), (1, .int (nI m)), (2, .int (nI s)), (3, .int z)]) dX2_waitsFor_74 rfl (nI_1 _) (by decide) rfl ?_
        refine x_goto (tgt := 18) dX2_waitsFor_77 (by decide) ?_
        refine x_locs (L' := [(0, .ref a), (1, .int (nI m)), (2, .int (nI s)), (3, .int z), (4, .int (nI (i + 1)))]) [1, 2, 3, 4, 0] rfl ?_
        exact step _ (hz.to (fun j _ => by
          have hf : P i = false := by rw [hPi]; simp [c1]
          rw [hf]; simp))
      · have c1 := nNe (by omega) (by omega) c1
        refine x_aload_n dX2_waitsFor_35 0 rfl rfl ?_
        refine x_iload dX2_waitsFor_36 4 rfl ?_
        refine x_iload_n dX2_waitsFor_38 2 rfl rfl ?_
        refine x_callV dX2_waitsFor_39 (con_X2_lock hM (m := i) (s := s) (by omega) hs) (lw_V q1977 q1979 qs46 q101 q1980) (np := 2) (by decide +kernel) rfl (rcv_of vC_2 hM.1) ⟨Nat.le_of_ble_eq_true rfl, Nat.le_of_ble_eq_true rfl⟩ (Nat.le_of_ble_eq_true rfl) rfl (by decide) (by decide) (rS ?_) nI'
        refine x_top (x' := nI (hw S i s)) (hG.hwE (by omega) hs) ?_
        refine x_iconst (v := nI 2) dX2_waitsFor_42 (by decide) ?_
        refine x_icmp_eq (tgt := 67) dX2_waitsFor_43 (by decide) (fun c2 => ?_) (fun c2 => ?_)
        · have c2 := nEq (by omega) (by omega) c2
          refine x_iload_n dX2_waitsFor_67 3 rfl rfl ?_
          refine x_iconst (v := nI 1) dX2_waitsFor_68 (by decide) ?_
          refine x_iload dX2_waitsFor_69 4 rfl ?_
          refine x_ishl dX2_waitsFor_71 ?_
          refine x_ior dX2_waitsFor_72 ?_
          refine x_istore_n (i := 3) (L' := [(3, .int (z ||| ((nI 1) <<< ((nI i) &&& 31)))), (0, .ref a), (1, .int (nI m)), (2, .int (nI s)), (4, .int (nI i))]) dX2_waitsFor_73 rfl (by decide) rfl ?_
          refine x_iinc (i := 4) (q := 4) (v := nI (i + 1)) (L' := [(4, .int (nI (i + 1))), (3, .int (z ||| ((nI 1) <<< ((nI i) &&& 31)))), (0, .ref a), (1, .int (nI m)), (2, .int (nI s))]) dX2_waitsFor_74 rfl (nI_1 _) (by decide) rfl ?_
          refine x_goto (tgt := 18) dX2_waitsFor_77 (by decide) ?_
          refine x_locs (L' := [(0, .ref a), (1, .int (nI m)), (2, .int (nI s)), (3, .int (z ||| ((nI 1) <<< ((nI i) &&& 31)))), (4, .int (nI (i + 1)))]) [2, 3, 4, 1, 0] rfl ?_
          exact step _ ((hz.or (BS.one (show i < 24 by omega))).to (fun j _ => by
            have hf : P i = true := by rw [hPi]; simp [c1, c2]
            rw [hf]; simp))
        · have c2 := nNe (by omega) (by omega) c2
          refine x_aload_n dX2_waitsFor_46 0 rfl rfl ?_
          refine x_iload dX2_waitsFor_47 4 rfl ?_
          refine x_iload_n dX2_waitsFor_49 2 rfl rfl ?_
          refine x_callV dX2_waitsFor_50 (con_X2_lock hM (m := i) (s := s) (by omega) hs) (lw_V q1977 q1979 qs46 q101 q1980) (np := 2) (by decide +kernel) rfl (rcv_of vC_2 hM.1) ⟨Nat.le_of_ble_eq_true rfl, Nat.le_of_ble_eq_true rfl⟩ (Nat.le_of_ble_eq_true rfl) rfl (by decide) (by decide) (rS ?_) nI'
          refine x_top (x' := nI (hw S i s)) (hG.hwE (by omega) hs) ?_
          refine x_iconst (v := nI 1) dX2_waitsFor_53 (by decide) ?_
          refine x_icmp_ne (tgt := 74) dX2_waitsFor_54 (by decide) (fun c3 => ?_) (fun c3 => ?_)
          · have c3 := nNe (by omega) (by omega) c3
            refine x_iinc (i := 4) (q := 4) (v := nI (i + 1)) (L' := [(4, .int (nI (i + 1))), (0, .ref a), (1, .int (nI m)), (2, .int (nI s)), (3, .int z)]) dX2_waitsFor_74 rfl (nI_1 _) (by decide) rfl ?_
            refine x_goto (tgt := 18) dX2_waitsFor_77 (by decide) ?_
            refine x_locs (L' := [(0, .ref a), (1, .int (nI m)), (2, .int (nI s)), (3, .int z), (4, .int (nI (i + 1)))]) [1, 2, 3, 4, 0] rfl ?_
            exact step _ (hz.to (fun j _ => by
              have hf : P i = false := by rw [hPi]; simp [c2, c3]
              rw [hf]; simp))
          · have c3 := nEq (by omega) (by omega) c3
            refine x_aload_n dX2_waitsFor_57 0 rfl rfl ?_
            refine x_iload_n dX2_waitsFor_58 1 rfl rfl ?_
            refine x_iconst (v := nI 2) dX2_waitsFor_59 (by decide) ?_
            refine x_callV dX2_waitsFor_60 (con_X2_of hM (m := m) (w := 2) hm24 (by decide)) (lw_V q1966 q1968 qs44 q101 q1969) (np := 2) (by decide +kernel) rfl (rcv_of vC_2 hM.1) ⟨Nat.le_of_ble_eq_true rfl, Nat.le_of_ble_eq_true rfl⟩ (Nat.le_of_ble_eq_true rfl) rfl (by decide) (by decide) (rS ?_) nI'
            refine x_top (x' := nI (kindOf S m)) ((hG.2.2.1 m hm).2) ?_
            refine x_iconst (v := nI 2) dX2_waitsFor_63 (by decide) ?_
            refine x_icmp_ne (tgt := 74) dX2_waitsFor_64 (by decide) (fun c4 => ?_) (fun c4 => ?_)
            · have c4 := nNe (by omega) (by omega) c4
              refine x_iinc (i := 4) (q := 4) (v := nI (i + 1)) (L' := [(4, .int (nI (i + 1))), (0, .ref a), (1, .int (nI m)), (2, .int (nI s)), (3, .int z)]) dX2_waitsFor_74 rfl (nI_1 _) (by decide) rfl ?_
              refine x_goto (tgt := 18) dX2_waitsFor_77 (by decide) ?_
              refine x_locs (L' := [(0, .ref a), (1, .int (nI m)), (2, .int (nI s)), (3, .int z), (4, .int (nI (i + 1)))]) [1, 2, 3, 4, 0] rfl ?_
              exact step _ (hz.to (fun j _ => by
                have hf : P i = false := by rw [hPi]; simp [c3, c4]
                rw [hf]; simp))
            · have c4 := nEq (by omega) (by omega) c4
              refine x_iload_n dX2_waitsFor_67 3 rfl rfl ?_
              refine x_iconst (v := nI 1) dX2_waitsFor_68 (by decide) ?_
              refine x_iload dX2_waitsFor_69 4 rfl ?_
              refine x_ishl dX2_waitsFor_71 ?_
              refine x_ior dX2_waitsFor_72 ?_
              refine x_istore_n (i := 3) (L' := [(3, .int (z ||| ((nI 1) <<< ((nI i) &&& 31)))), (0, .ref a), (1, .int (nI m)), (2, .int (nI s)), (4, .int (nI i))]) dX2_waitsFor_73 rfl (by decide) rfl ?_
              refine x_iinc (i := 4) (q := 4) (v := nI (i + 1)) (L' := [(4, .int (nI (i + 1))), (3, .int (z ||| ((nI 1) <<< ((nI i) &&& 31)))), (0, .ref a), (1, .int (nI m)), (2, .int (nI s))]) dX2_waitsFor_74 rfl (nI_1 _) (by decide) rfl ?_
              refine x_goto (tgt := 18) dX2_waitsFor_77 (by decide) ?_
              refine x_locs (L' := [(0, .ref a), (1, .int (nI m)), (2, .int (nI s)), (3, .int (z ||| ((nI 1) <<< ((nI i) &&& 31)))), (4, .int (nI (i + 1)))]) [2, 3, 4, 1, 0] rfl ?_
              exact step _ ((hz.or (BS.one (show i < 24 by omega))).to (fun j _ => by
                have hf : P i = true := by rw [hPi]; simp [c1, c3, c4]
                rw [hf]; simp))
set_option maxHeartbeats 4000000 in
set_option maxRecDepth 100000 in
theorem con_X2_reaches {l : Launch} {G : YG} {σ : AH} {a : Nat} {ad : Nat → Nat} {M : MS} {S : AS} {m : Nat} (hM : MAt σ a ad M) (hG : GR (M.1 0) S) (hI : IV S) (hm : m < nC S) : Con l yX2_reaches cX2_reaches 5 (some FieldType.int) G 2 0 0 [.ref a, .int (nI m)] σ (PR σ (fun z => BS z (rB S m))) := by
  refine con_of (by decide) (Nat.le_of_ble_eq_true rfl) ?_
  refine x_locs (L' := [(0, .ref a), (1, .int (nI m))]) [0, 1] rfl ?_
  have hC := hI.c
  refine x_aload_n dX2_reaches_0 0 rfl rfl ?_
  refine x_iload_n dX2_reaches_1 1 rfl rfl ?_
  refine x_callV dX2_reaches_2 (con_X2_waitsFor hM hG hI hm) (lw_V q2029 q2031 qs59 q101 q2032) (np := 1) (by decide +kernel) rfl (rcv_of vC_2 hM.1) ⟨Nat.le_of_ble_eq_true rfl, Nat.le_of_ble_eq_true rfl⟩ (Nat.le_of_ble_eq_true rfl) rfl (by decide) (by decide) (rR fun z0 hz0 => ?_) nI'
  refine x_istore_n (i := 2) (L' := [(2, .int z0), (0, .ref a), (1, .int (nI m))]) dX2_reaches_5 rfl (by decide) rfl ?_
  refine x_iconst (v := nI 0) dX2_reaches_6 (by decide) ?_
  refine x_istore_n (i := 3) (L' := [(3, .int (nI 0)), (2, .int z0), (0, .ref a), (1, .int (nI m))]) dX2_reaches_7 rfl (by decide) rfl ?_
  refine x_locs (L' := [(0, .ref a), (1, .int (nI m)), (2, .int z0), (3, .int (nI 0))]) [2, 3, 1, 0] rfl ?_
  suffices loop : ∀ (d : Nat) (z y : Int32) (F D : Nat → Bool), cn D 24 + d = 24 → BS z F → BS y D → (∀ i, D i = true → F i = true) → (∀ i, F i = true → reach S m i) → (∀ i, edge S m i = true → F i = true) → (∀ x, D x = true → ∀ i, edge S x i = true → F i = true) → X l yX2_reaches cX2_reaches 5 (some FieldType.int) [] G (yroom 2 0 0) (yEnd G (yroom 2 0 0) (PR σ (fun z => BS z (rB S m)))) 8 [(0, .ref a), (1, .int (nI m)), (2, .int z), (3, .int y)] [] σ 0 0 from loop 24 z0 (nI 0) (edge S m) (fun _ => false) rfl hz0 BS.zero (fun i h => by cases h) (fun i h => Relation.TransGen.single h) (fun i h => h) (fun x h => by cases h)
  intro d
  induction d with
  | zero =>
    intro z y F D hd hz hy hDF hF hE hcl
    have hall : ∀ i, i < 24 → F i = D i := fun i hi => by
      cases hDi : D i with
      | true => exact hDF i hDi
      | false =>
        have := cn_add (f := D) (g := fun j => D j || j == i) (o := i) (n := 24) (fun _ => rfl) hDi hi
        have := cn_le (f := fun j => D j || j == i) (n := 24)
        omega
    have hzy : z = y := hz.eq hy hall
    refine x_iload_n dX2_reaches_8 2 rfl rfl ?_
    refine x_iload_n dX2_reaches_9 3 rfl rfl ?_
    refine x_icmp_eq (tgt := 54) dX2_reaches_10 (by decide) (fun _ => ?_) (fun h_ => absurd (hzy) h_)
    refine x_iload_n dX2_reaches_54 2 rfl rfl ?_
    exact x_iret dX2_reaches_55 rfl (pR (hz.to (fun i hi => by
      rw [Bool.eq_iff_iff, rB_iff]
      refine ⟨hF i, fun hr => reach_closed (F := fun x => F x) hE (fun x hx o ho => hcl x ?_ o ho) hr⟩
      have hx24 : x < 24 := by have := reach_lt hI (hF x hx); omega
      rw [← hall x hx24]; exact hx)))
  | succ d ih =>
    intro z y F D hd hz hy hDF hF hE hcl
    refine x_iload_n dX2_reaches_8 2 rfl rfl ?_
    refine x_iload_n dX2_reaches_9 3 rfl rfl ?_
    refine x_icmp_eq (tgt := 54) dX2_reaches_10 (by decide) (fun c1 => ?_) (fun c1 => ?_)
    · have hall : ∀ i, i < 24 → F i = D i := fun i hi => BS.same hz (by rw [c1]; exact hy) hi
      refine x_iload_n dX2_reaches_54 2 rfl rfl ?_
      exact x_iret dX2_reaches_55 rfl (pR (hz.to (fun i hi => by
        rw [Bool.eq_iff_iff, rB_iff]
        refine ⟨hF i, fun hr => reach_closed (F := fun x => F x) hE (fun x hx o ho => hcl x ?_ o ho) hr⟩
        have hx24 : x < 24 := by have := reach_lt hI (hF x hx); omega
        rw [← hall x hx24]; exact hx)))
    · obtain ⟨i0, hi0, hFi, hDi⟩ := hz.diff hy c1 hDF
      refine x_iconst (v := nI 0) dX2_reaches_13 (by decide) ?_
      refine x_istore (i := 4) (L' := [(4, .int (nI 0)), (0, .ref a), (1, .int (nI m)), (2, .int z), (3, .int y)]) dX2_reaches_14 (by decide) rfl ?_
      refine x_locs (L' := [(0, .ref a), (1, .int (nI m)), (2, .int z), (3, .int y), (4, .int (nI 0))]) [1, 2, 3, 4, 0] rfl ?_
      suffices inner : ∀ (e j : Nat), j + e = i0 → X l yX2_reaches cX2_reaches 5 (some FieldType.int) [] G (yroom 2 0 0) (yEnd G (yroom 2 0 0) (PR σ (fun z => BS z (rB S m)))) 16 [(0, .ref a), (1, .int (nI m)), (2, .int z), (3, .int y), (4, .int (nI j))] [] σ 0 0 from inner i0 0 (by omega)
      intro e
      induction e using Nat.strongRecOn with
      | _ e ihe =>
      intro j hj
      have hj24 : j < 24 := by omega
      have hbit := (hz.andnot hy).bit hj24
      refine x_iload_n dX2_reaches_16 2 rfl rfl ?_
      refine x_iload_n dX2_reaches_17 3 rfl rfl ?_
      refine x_iconst (v := (-1)) dX2_reaches_18 (by decide) ?_
      refine x_ixor dX2_reaches_19 ?_
      refine x_iand dX2_reaches_20 ?_
      refine x_iload dX2_reaches_21 4 rfl ?_
      refine x_ishr dX2_reaches_23 ?_
      refine x_iconst (v := nI 1) dX2_reaches_24 (by decide) ?_
      refine x_iand dX2_reaches_25 ?_
      refine x_top (x' := bI (F j && !D j)) (hbit) ?_
      refine x_if_ne (tgt := 35) dX2_reaches_26 (by decide) (fun c2 => ?_) (fun c2 => ?_)
      · have c2 := bI_1 c2
        have hFj : F j = true := by cases h : F j <;> simp_all
        have hDj : D j = false := by cases h : D j <;> simp_all
        have hjC := reach_lt hI (hF j hFj)
        refine x_iload_n dX2_reaches_35 3 rfl rfl ?_
        refine x_iconst (v := nI 1) dX2_reaches_36 (by decide) ?_
        refine x_iload dX2_reaches_37 4 rfl ?_
        refine x_ishl dX2_reaches_39 ?_
        refine x_ior dX2_reaches_40 ?_
        refine x_istore_n (i := 3) (L' := [(3, .int (y ||| ((nI 1) <<< ((nI j) &&& 31)))), (0, .ref a), (1, .int (nI m)), (2, .int z), (4, .int (nI j))]) dX2_reaches_41 rfl (by decide) rfl ?_
        refine x_iload_n dX2_reaches_42 3 rfl rfl ?_
        refine x_aload_n dX2_reaches_43 1 rfl rfl ?_
        refine x_iload dX2_reaches_44 4 rfl ?_
        refine x_callV dX2_reaches_46 (con_X2_waitsFor hM hG hI hjC) (lw_V q2029 q2031 qs59 q101 q2032) (np := 1) (by decide +kernel) rfl (rcv_of vC_2 hM.1) ⟨Nat.le_of_ble_eq_true rfl, Nat.le_of_ble_eq_true rfl⟩ (Nat.le_of_ble_eq_true rfl) rfl (by decide) (by decide) (rR fun z1 hz1 => ?_) nI'
        refine x_ior dX2_reaches_49 ?_
        refine x_istore_n (i := 2) (L' := [(2, .int (z ||| z1)), (3, .int (y ||| ((nI 1) <<< ((nI j) &&& 31)))), (0, .ref a), (1, .int (nI m)), (4, .int (nI j))]) dX2_reaches_50 rfl (by decide) rfl ?_
        refine x_goto (tgt := 8) dX2_reaches_51 (by decide) ?_
        refine x_locs (L' := [(0, .ref a), (1, .int (nI m)), (2, .int (z ||| z1)), (3, .int (y ||| ((nI 1) <<< ((nI j) &&& 31))))]) [2, 3, 0, 1] rfl ?_
        refine ih _ _ (fun i => F i || edge S j i) (fun i => D i || i == j) ?_ (hz.or hz1) (hy.or (BS.one hj24)) (fun i h => ?_) (fun i h => ?_) (fun i h => ?_) (fun x hx i h => ?_)
        · have := cn_add (f := D) (g := fun i => D i || i == j) (o := j) (n := 24) (fun _ => rfl) hDj hj24
          omega
        · rcases Bool.or_eq_true _ _ |>.mp h with q | q
          · simp [hDF i q]
          · have : i = j := by simpa using q
            subst this; simp [hFj]
        · rcases Bool.or_eq_true _ _ |>.mp h with q | q
          · exact hF i q
          · exact Relation.TransGen.tail (hF j hFj) q
        · simp [hE i h]
        · rcases Bool.or_eq_true _ _ |>.mp hx with q | q
          · simp [hcl x q i h]
          · have : x = j := by simpa using q
            subst this; simp [h]
      · have c2 := bI_0 c2
        have hne : j ≠ i0 := fun z => by subst z; simp [hFi, hDi] at c2
        refine x_iinc (i := 4) (q := 4) (v := nI (j + 1)) (L' := [(4, .int (nI (j + 1))), (0, .ref a), (1, .int (nI m)), (2, .int z), (3, .int y)]) dX2_reaches_29 rfl (nI_1 _) (by decide) rfl ?_
        refine x_goto (tgt := 16) dX2_reaches_32 (by decide) ?_
        refine x_locs (L' := [(0, .ref a), (1, .int (nI m)), (2, .int z), (3, .int y), (4, .int (nI (j + 1)))]) [1, 2, 3, 4, 0] rfl ?_
        exact ihe (e - 1) (by omega) (j + 1) (by omega)
set_option maxHeartbeats 4000000 in
set_option maxRecDepth 100000 in
theorem con_X2_isInRing {l : Launch} {G : YG} {σ : AH} {a : Nat} {ad : Nat → Nat} {M : MS} {S : AS} {m : Nat} (hM : MAt σ a ad M) (hG : GR (M.1 0) S) (hI : IV S) (hm : m < nC S) : Con l yX2_isInRing cX2_isInRing 2 (some FieldType.boolean) G 3 0 0 [.ref a, .int (nI m)] σ (PS σ (bI (rB S m m))) := by
  refine con_of (by decide) (Nat.le_of_ble_eq_true rfl) ?_
  refine x_locs (L' := [(0, .ref a), (1, .int (nI m))]) [0, 1] rfl ?_
  have hC := hI.c
  refine x_aload_n dX2_isInRing_0 0 rfl rfl ?_
  refine x_iload_n dX2_isInRing_1 1 rfl rfl ?_
  refine x_callV dX2_isInRing_2 (con_X2_reaches hM hG hI hm) (lw_V q2025 q2027 qs58 q101 q2028) (np := 1) (by decide +kernel) rfl (rcv_of vC_2 hM.1) ⟨Nat.le_of_ble_eq_true rfl, Nat.le_of_ble_eq_true rfl⟩ (Nat.le_of_ble_eq_true rfl) rfl (by decide) (by decide) (rR fun z0 hz0 => ?_) nI'
  refine x_iload_n dX2_isInRing_5 1 rfl rfl ?_
  refine x_ishr dX2_isInRing_6 ?_
  refine x_iconst (v := nI 1) dX2_isInRing_7 (by decide) ?_
  refine x_iand dX2_isInRing_8 ?_
  refine x_iconst (v := nI 1) dX2_isInRing_9 (by decide) ?_
  have hb := hz0.bit (show m < 24 by omega)
  refine x_icmp_ne (tgt := 17) dX2_isInRing_10 (by decide) (fun c1 => ?_) (fun c1 => ?_)
  · have hf : rB S m m = false := by
      cases h : rB S m m with
      | false => rfl
      | true => rw [h] at hb; exact absurd hb c1
    refine x_iconst (v := nI 0) dX2_isInRing_17 (by decide) ?_
    exact x_zret dX2_isInRing_18 rfl (rfl) (pS' (by rw [hf]; rfl))
  · have hf : rB S m m = true := by
      cases h : rB S m m with
      | true => rfl
      | false => rw [h] at hb; exact absurd (hb.symm.trans c1) (by decide)
    refine x_iconst (v := nI 1) dX2_isInRing_13 (by decide) ?_
    refine x_goto (tgt := 18) dX2_isInRing_14 (by decide) ?_
    exact x_zret dX2_isInRing_18 rfl (rfl) (pS' (by rw [hf]; rfl))
