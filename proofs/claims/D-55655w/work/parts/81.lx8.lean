set_option maxRecDepth 100000
theorem cn_f0 {f : Nat → Bool} {i : Nat} (h : f i = false) : cn f (i + 1) = cn f i := by rw [cn_f h]; rfl
set_option maxHeartbeats 4000000 in
set_option maxRecDepth 100000 in
theorem con_X1_held {l : Launch} {G : YG} {σ : AH} {a : Nat} {ad : Nat → Nat} {N : Nat → NL} {mc : Nat → Int32} {S : AS} {m : Nat} (hL : LD σ a ad N mc S) (hI : IV S) (hm : m < 24) : Con l yX1_held cX1_held 7 (some FieldType.int) G 1 0 0 [.ref a, .int (nI m)] σ (PS σ (nI (cn (lockF S m) 8))) := by
  refine con_of (by decide) (Nat.le_of_ble_eq_true rfl) ?_
  refine x_locs (L' := [(0, .ref a), (1, .int (nI m))]) [0, 1] rfl ?_
  have ho := hL.o
  obtain ⟨fr, hfr, hfv⟩ := hL.row hm
  refine x_iconst (v := nI 0) dX1_held_0 (by decide) ?_
  refine x_istore_n (i := 2) (L' := [(2, .int (nI 0)), (0, .ref a), (1, .int (nI m))]) dX1_held_1 rfl (by decide) rfl ?_
  refine x_aload_n dX1_held_2 1 rfl rfl ?_
  refine x_get dX1_held_3 vC_1 in_X1 ho 0 (by decide) q277 rfl ?_
  refine x_iload_n dX1_held_6 2 rfl rfl ?_
  obtain ⟨fh1, hh2, hv3⟩ := hL.2.1
  refine x_aald7 (N := 24) (j := m) dX1_held_7 hh2 rfl (hm) (by decide) (hv3 _ (hm)) ?_
  refine x_astore_n (i := 3) (L' := [(3, .ref (ad (20 + m))), (2, .int (nI 0)), (0, .ref a), (1, .int (nI m))]) dX1_held_8 rfl (by decide) rfl ?_
  refine x_aload_n dX1_held_9 0 rfl rfl ?_
  refine x_alen (N := 0) (q0 := 1) (v := nI 8) dX1_held_10 hfr rfl rfl ?_
  refine x_istore (i := 4) (L' := [(4, .int (nI 8)), (3, .ref (ad (20 + m))), (2, .int (nI 0)), (0, .ref a), (1, .int (nI m))]) dX1_held_11 (by decide) rfl ?_
  refine x_iconst (v := nI 0) dX1_held_13 (by decide) ?_
  refine x_istore (i := 5) (L' := [(5, .int (nI 0)), (4, .int (nI 8)), (3, .ref (ad (20 + m))), (2, .int (nI 0)), (0, .ref a), (1, .int (nI m))]) dX1_held_14 (by decide) rfl ?_
  refine x_locs (L' := [(0, .ref a), (1, .int (nI m)), (2, .int (nI 0)), (3, .ref (ad (20 + m))), (4, .int (nI 8)), (5, .int (nI 0))]) [4, 5, 3, 2, 1, 0] rfl ?_
  suffices loop : ∀ (d i : Nat), i + d = 8 → X l yX1_held cX1_held 7 (some FieldType.int) [] G (yroom 1 0 0) (yEnd G (yroom 1 0 0) (PS σ (nI (cn (lockF S m) 8)))) 16 [(0, .ref a), (1, .int (nI m)), (2, .int (nI (cn (lockF S m) i))), (3, .ref (ad (20 + m))), (4, .int (nI 8)), (5, .int (nI i))] [] σ 0 0 from loop (8) 0 (Nat.zero_add _)
  intro d
  induction d with
  | zero =>
    intro i hi
    have hin : i = 8 := by omega
    subst hin
    refine x_iload dX1_held_16 5 rfl ?_
    refine x_iload dX1_held_18 4 rfl ?_
    refine x_icmp_ge (tgt := 48) dX1_held_20 (by decide) (fun _ => ?_) (fun h_ => absurd (by decide) h_)
    refine x_iload_n dX1_held_48 2 rfl rfl ?_
    exact x_iret dX1_held_49 rfl (pS' (by rfl))
  | succ d ih =>
    intro i hi
    have h2 := hI.2.2.1 m i
    refine x_iload dX1_held_16 5 rfl ?_
    refine x_iload dX1_held_18 4 rfl ?_
    refine x_icmp_ge (tgt := 48) dX1_held_20 (by decide) (fun h_ => absurd h_ (fun h => absurd (nLe (by omega) (by omega) h) (by omega))) (fun _ => ?_)
    refine x_aload_n dX1_held_23 3 rfl rfl ?_
    refine x_iload dX1_held_24 5 rfl ?_
    obtain ⟨fr4, hr5, hw6⟩ := hL.row (m := m) (hm)
    refine x_sald (N := 8) (j := i) (v := nI (hw S m i)) dX1_held_26 hr5 rfl (by omega) (by decide) (hw6 _ (by omega)) ?_
    refine x_istore (i := 6) (L' := [(6, .int (nI (hw S m i))), (0, .ref a), (1, .int (nI m)), (2, .int (nI (cn (lockF S m) i))), (3, .ref (ad (20 + m))), (4, .int (nI 8)), (5, .int (nI i))]) dX1_held_27 (by decide) rfl ?_
    refine x_iload_n dX1_held_29 3 rfl rfl ?_
    refine x_iload dX1_held_30 0 rfl ?_
    refine x_if_eq (tgt := 39) dX1_held_32 (by decide) (fun c1 => ?_) (fun c1 => ?_)
    · have c1 := n0 (by omega) c1
      have hf : lockF S m i = false := by
        show (!(_ == 0)) = false
        simp [c1]
      have hs := cn_f hf
      refine x_iconst (v := nI 0) dX1_held_39 (by decide) ?_
      refine x_iadd dX1_held_40 ?_
      refine x_top (x' := nI (cn (lockF S m) i + 0)) (nI_add _ _) ?_
      refine x_istore_n (i := 2) (L' := [(2, .int (nI (cn (lockF S m) i + 0))), (6, .int (nI (hw S m i))), (0, .ref a), (1, .int (nI m)), (3, .ref (ad (20 + m))), (4, .int (nI 8)), (5, .int (nI i))]) dX1_held_41 rfl (by decide) rfl ?_
      refine x_iinc (i := 5) (q := 6) (v := nI (i + 1)) (L' := [(5, .int (nI (i + 1))), (2, .int (nI (cn (lockF S m) i + 0))), (6, .int (nI (hw S m i))), (0, .ref a), (1, .int (nI m)), (3, .ref (ad (20 + m))), (4, .int (nI 8))]) dX1_held_42 rfl (nI_1 _) (by decide) rfl ?_
      refine x_goto (tgt := 16) dX1_held_45 (by decide) ?_
      refine x_locs (L' := [(0, .ref a), (1, .int (nI m)), (2, .int (nI (cn (lockF S m) i + 0))), (3, .ref (ad (20 + m))), (4, .int (nI 8)), (5, .int (nI (i + 1)))]) [3, 4, 1, 5, 6, 0] rfl ?_
      rw [← hs]
      exact ih (i + 1) (by omega)
    · have c1 := nN0 c1
      have hf : lockF S m i = true := by
        show (!(_ == 0)) = true
        simp [c1]
      have hs := cn_t hf
      refine x_iconst (v := nI 1) dX1_held_35 (by decide) ?_
      refine x_goto (tgt := 40) dX1_held_36 (by decide) ?_
      refine x_iadd dX1_held_40 ?_
      refine x_top (x' := nI (cn (lockF S m) i + 1)) (nI_add _ _) ?_
      refine x_istore_n (i := 2) (L' := [(2, .int (nI (cn (lockF S m) i + 1))), (6, .int (nI (hw S m i))), (0, .ref a), (1, .int (nI m)), (3, .ref (ad (20 + m))), (4, .int (nI 8)), (5, .int (nI i))]) dX1_held_41 rfl (by decide) rfl ?_
      refine x_iinc (i := 5) (q := 6) (v := nI (i + 1)) (L' := [(5, .int (nI (i + 1))), (2, .int (nI (cn (lockF S m) i + 1))), (6, .int (nI (hw S m i))), (0, .ref a), (1, .int (nI m)), (3, .ref (ad (20 + m))), (4, .int (nI 8))]) dX1_held_42 rfl (nI_1 _) (by decide) rfl ?_
      refine x_goto (tgt := 16) dX1_held_45 (by decide) ?_
      refine x_locs (L' := [(0, .ref a), (1, .int (nI m)), (2, .int (nI (cn (lockF S m) i + 1))), (3, .ref (ad (20 + m))), (4, .int (nI 8)), (5, .int (nI (i + 1)))]) [3, 4, 1, 5, 6, 0] rfl ?_
      rw [← hs]
      exact ih (i + 1) (by omega)
set_option maxHeartbeats 4000000 in
set_option maxRecDepth 100000 in
theorem con_X1_ahead {l : Launch} {G : YG} {σ : AH} {a : Nat} {ad : Nat → Nat} {N : Nat → NL} {mc : Nat → Int32} {S : AS} {m : Nat} (hL : LD σ a ad N mc S) (hI : IV S) (hm : m < 24) : Con l yX1_ahead cX1_ahead 4 (some FieldType.int) G 7 8 40 [.ref a, .int (nI m)] σ (PRO σ (nI (ahd S m))) := by
  refine con_of (by decide) (Nat.le_of_ble_eq_true rfl) ?_
  refine x_locs (L' := [(0, .ref a), (1, .int (nI m))]) [0, 1] rfl ?_
  have ho := hL.o
  have hL0 := hL
  have hC := hI.c
  refine x_aload_n dX1_ahead_0 0 rfl rfl ?_
  refine x_iload_n dX1_ahead_1 1 rfl rfl ?_
  refine x_callV dX1_ahead_2 (con_X1_waitsFor hL hI hm) (lw_V q1068 q1069 q1070 q86 q1071) (np := 1) (by decide +kernel) rfl (rcv_of vC_1 ho) ⟨Nat.le_of_ble_eq_true rfl, Nat.le_of_ble_eq_true rfl⟩ (Nat.le_of_ble_eq_true rfl) rfl (by omega) (by omega) (rP fun σ1 hR => ?_) nI'
  have hL := hL.ro (hR)
  have ho := hL.o
  refine x_istore_n (i := 2) (L' := [(2, .int (atV S m)), (0, .ref a), (1, .int (nI m))]) dX1_ahead_5 rfl (by decide) rfl ?_
  refine x_iconst (v := nI 0) dX1_ahead_6 (by decide) ?_
  refine x_istore_n (i := 3) (L' := [(3, .int (nI 0)), (2, .int (atV S m)), (0, .ref a), (1, .int (nI m))]) dX1_ahead_7 rfl (by decide) rfl ?_
  cases ha : aAt S m with
  | none =>
    have hr : ahd S m = 0 := by unfold ahd; rw [ha]
    refine x_iload_n dX1_ahead_8 1 rfl rfl ?_
    refine x_bipush (v := (-15)) dX1_ahead_9 (by decide) ?_
    refine x_icmp_eq (tgt := 45) dX1_ahead_11 (by decide) (fun _ => ?_) (fun h_ => absurd (atV_none ha) h_)
    refine x_iload_n dX1_ahead_45 0 rfl rfl ?_
    exact x_iret dX1_ahead_46 rfl (pRo (by rw [hr]) hR)
  | some s =>
    have hs : s < 8 := (aAt_some ha).1
    have hl8 := hI.len hs
    obtain ⟨w0, hw0⟩ := (aAt_some ha).2
    have hin : inRow m (qu S s) = true := by rw [inRow_wish, hw0]; rfl
    have hr : ahd S m = (aheadL m (qu S s)).length := by unfold ahd; rw [ha]
    rw [hr, atV_some ha]
    refine x_locs (L' := [(0, .ref a), (1, .int (nI m)), (2, .int (nI s)), (3, .int (nI 0))]) [2, 3, 1, 0] rfl ?_
    suffices loop : ∀ (d i : Nat), i + d = (aheadL m (qu S s)).length → X l yX1_ahead cX1_ahead 4 (some FieldType.int) [] G (yroom 7 8 40) (yEnd G (yroom 7 8 40) (PRO σ (nI (aheadL m (qu S s)).length))) 8 [(0, .ref a), (1, .int (nI m)), (2, .int (nI s)), (3, .int (nI i))] [] σ1 (8 - 8) (40 - 40) from loop ((aheadL m (qu S s)).length) 0 (Nat.zero_add _)
    intro d
    induction d with
    | zero =>
      intro i hi
      have hin0 : i = (aheadL m (qu S s)).length := by omega
      subst hin0
      obtain ⟨x, hx, hxm⟩ := aheadL_end hin
      have hx8 : (aheadL m (qu S s)).length < 8 := Nat.lt_of_lt_of_le (List.getElem?_eq_some_iff.mp hx).1 hl8
      have hNl := hL.len hs
      obtain ⟨xn, hxn⟩ : ∃ xn, (N s)[(aheadL m (qu S s)).length]? = some xn := ⟨_, List.getElem?_eq_getElem (by have := get_lt' hx; omega)⟩
      have hwc := (hL.wr hs).2 _ xn x hxn hx
      refine x_iload_n dX1_ahead_8 2 rfl rfl ?_
      refine x_bipush (v := (-15)) dX1_ahead_9 (by decide) ?_
      refine x_icmp_eq (tgt := 45) dX1_ahead_11 (by decide) (fun h_ => absurd h_ (fun h => absurd h ((by decide +kernel : ∀ s, s < 8 → ¬ nI s = (-15)) s hs))) (fun _ => ?_)
      refine x_aload_n dX1_ahead_14 0 rfl rfl ?_
      refine x_get dX1_ahead_15 vC_1 in_X1 ho 1 (by decide) q279 rfl ?_
      refine x_iload_n dX1_ahead_18 2 rfl rfl ?_
      refine x_callV dX1_ahead_19 (con_J2_get hL.al (lYs_at hs)) (lw_V q407 q408 q409 q89 q410) (np := 1) (by decide +kernel) rfl hL.al.rc ⟨Nat.le_of_ble_eq_true rfl, Nat.le_of_ble_eq_true rfl⟩ (Nat.le_of_ble_eq_true rfl) rfl (Nat.zero_le _) (Nat.zero_le _) (rSA ?_) nA'
      refine x_ckcast dX1_ahead_22 q183 (hL.ll hs).rc ?_
      refine x_iload_n dX1_ahead_25 3 rfl rfl ?_
      refine x_callV dX1_ahead_26 (con_J4_get (hL.ll hs) hxn) (lw_V q1392 q606 q2264 q91 q607) (np := 1) (by decide +kernel) rfl (hL.ll hs).rc ⟨Nat.le_of_ble_eq_true rfl, Nat.le_of_ble_eq_true rfl⟩ (Nat.le_of_ble_eq_true rfl) rfl (Nat.zero_le _) (Nat.zero_le _) (rSA ?_) nA'
      refine x_ckcast dX1_ahead_29 q915 (rcv_of vC_4 hwc) ?_
      refine x_getN dX1_ahead_32 vC_4 in_X4 hwc 0 (by decide) q1078 rfl ?_
      refine x_iload_n dX1_ahead_35 1 rfl rfl ?_
      refine x_icmp_eq (tgt := 45) dX1_ahead_36 (by decide) (fun _ => ?_) (fun h_ => absurd (by rw [hxm]) h_)
      refine x_iload_n dX1_ahead_45 3 rfl rfl ?_
      exact x_iret dX1_ahead_46 rfl (pRo rfl hR)
    | succ d ih =>
      intro i hi
      obtain ⟨x, hx, hxm, hxa⟩ := aheadL_get (m := m) (r := qu S s) (k := i) (by omega)
      have hx24 : x.1 < 24 := by have := hI.th (hI.w hs (List.mem_of_getElem? hx)).1; omega
      have hx8 : i < 8 := Nat.lt_of_lt_of_le (List.getElem?_eq_some_iff.mp hx).1 hl8
      have hNl := hL.len hs
      obtain ⟨xn, hxn⟩ : ∃ xn, (N s)[i]? = some xn := ⟨_, List.getElem?_eq_getElem (by have := get_lt' hx; omega)⟩
      have hwc := (hL.wr hs).2 _ xn x hxn hx
      refine x_iload_n dX1_ahead_8 2 rfl rfl ?_
      refine x_bipush (v := (-15)) dX1_ahead_9 (by decide) ?_
      refine x_icmp_eq (tgt := 45) dX1_ahead_11 (by decide) (fun h_ => absurd h_ (fun h => absurd h ((by decide +kernel : ∀ s, s < 8 → ¬ nI s = (-15)) s hs))) (fun _ => ?_)
      refine x_aload_n dX1_ahead_14 0 rfl rfl ?_
      refine x_get dX1_ahead_15 vC_1 in_X1 ho 1 (by decide) q279 rfl ?_
      refine x_iload_n dX1_ahead_18 2 rfl rfl ?_
      refine x_callV dX1_ahead_19 (con_J2_get hL.al (lYs_at hs)) (lw_V q407 q408 q409 q89 q410) (np := 1) (by decide +kernel) rfl hL.al.rc ⟨Nat.le_of_ble_eq_true rfl, Nat.le_of_ble_eq_true rfl⟩ (Nat.le_of_ble_eq_true rfl) rfl (Nat.zero_le _) (Nat.zero_le _) (rSA ?_) nA'
      refine x_ckcast dX1_ahead_22 q183 (hL.ll hs).rc ?_
      refine x_iload_n dX1_ahead_25 3 rfl rfl ?_
      refine x_callV dX1_ahead_26 (con_J4_get (hL.ll hs) hxn) (lw_V q1392 q606 q2264 q91 q607) (np := 1) (by decide +kernel) rfl (hL.ll hs).rc ⟨Nat.le_of_ble_eq_true rfl, Nat.le_of_ble_eq_true rfl⟩ (Nat.le_of_ble_eq_true rfl) rfl (Nat.zero_le _) (Nat.zero_le _) (rSA ?_) nA'
      refine x_ckcast dX1_ahead_29 q915 (rcv_of vC_4 hwc) ?_
      refine x_getN dX1_ahead_32 vC_4 in_X4 hwc 0 (by decide) q1078 rfl ?_
      refine x_iload_n dX1_ahead_35 1 rfl rfl ?_
      refine x_icmp_eq (tgt := 45) dX1_ahead_36 (by decide) (fun h_ => absurd h_ (fun h => hxm (nEq (by omega) (by omega) h))) (fun _ => ?_)
      refine x_iinc (i := 3) (q := 3) (v := nI (i + 1)) (L' := [(3, .int (nI (i + 1))), (0, .ref a), (1, .int (nI m)), (2, .int (nI s))]) dX1_ahead_39 rfl (nI_1 _) (by decide) rfl ?_
      refine x_goto (tgt := 8) dX1_ahead_42 (by decide) ?_
      refine x_locs (L' := [(0, .ref a), (1, .int (nI m)), (2, .int (nI s)), (3, .int (nI (i + 1)))]) [1, 2, 3, 0] rfl ?_
      exact ih (i + 1) (by omega)
set_option maxHeartbeats 4000000 in
set_option maxRecDepth 100000 in
theorem con_X1_ofMaid {l : Launch} {G : YG} {σ : AH} {a : Nat} {ad : Nat → Nat} {N : Nat → NL} {mc : Nat → Int32} {S : AS} {m : Nat} {v : Int32} (hL : LD σ a ad N mc S) (hI : IV S) (hm : m < 24) : Con l yX1_ofMaid cX1_ofMaid 3 (some FieldType.int) G 9 18 90 [.ref a, .int (nI m), .int v] σ (PRO σ (mOf S m v)) := by
  refine con_of (by decide) (Nat.le_of_ble_eq_true rfl) ?_
  refine x_locs (L' := [(0, .ref a), (1, .int (nI m)), (2, .int v)]) [0, 1, 2] rfl ?_
  have ho := hL.o
  have hwcl := wC_le (S := S) (m := m)
  refine x_iload_n dX1_ofMaid_0 2 rfl rfl ?_
  by_cases e0 : v = nI 0
  · subst e0
    refine x_tableIn (off := 43) (tgt := 44) dX1_ofMaid_1 (by decide) (by decide) rfl (by decide) ?_
    refine x_aload_n dX1_ofMaid_44 0 rfl rfl ?_
    refine x_iload_n dX1_ofMaid_45 1 rfl rfl ?_
    refine x_callV dX1_ofMaid_46 (con_X1_held hL hI hm) (lw_V q1384 q1385 q1386 q86 q1387) (np := 1) (by decide +kernel) rfl (rcv_of vC_1 ho) ⟨Nat.le_of_ble_eq_true rfl, Nat.le_of_ble_eq_true rfl⟩ (Nat.le_of_ble_eq_true rfl) rfl (Nat.zero_le _) (Nat.zero_le _) (rS ?_) nI'
    refine x_goto (tgt := 105) dX1_ofMaid_49 (by decide) ?_
    exact x_iret dX1_ofMaid_105 rfl (pRo rfl RO.rf)
  by_cases e1 : v = nI 1
  · subst e1
    refine x_tableIn (off := 51) (tgt := 52) dX1_ofMaid_1 (by decide) (by decide) rfl (by decide) ?_
    refine x_aload_n dX1_ofMaid_52 0 rfl rfl ?_
    refine x_iload_n dX1_ofMaid_53 1 rfl rfl ?_
    refine x_callV dX1_ofMaid_54 (con_X1_waitsFor hL hI hm) (lw_V q1068 q1069 q1070 q86 q1071) (np := 1) (by decide +kernel) rfl (rcv_of vC_1 ho) ⟨Nat.le_of_ble_eq_true rfl, Nat.le_of_ble_eq_true rfl⟩ (Nat.le_of_ble_eq_true rfl) rfl (by omega) (by omega) (rP fun σ2 hR => ?_) nI'
    refine x_goto (tgt := 105) dX1_ofMaid_57 (by decide) ?_
    exact x_iret dX1_ofMaid_105 rfl (pRo rfl hR)
  by_cases e2 : v = nI 2
  · subst e2
    refine x_tableIn (off := 59) (tgt := 60) dX1_ofMaid_1 (by decide) (by decide) rfl (by decide) ?_
    refine x_aload_n dX1_ofMaid_60 0 rfl rfl ?_
    refine x_iload_n dX1_ofMaid_61 1 rfl rfl ?_
    refine x_callV dX1_ofMaid_62 (con_X1_ahead hL hI hm) (lw_V q1388 q1389 q1390 q86 q1391) (np := 1) (by decide +kernel) rfl (rcv_of vC_1 ho) ⟨Nat.le_of_ble_eq_true rfl, Nat.le_of_ble_eq_true rfl⟩ (Nat.le_of_ble_eq_true rfl) rfl (by omega) (by omega) (rP fun σ3 hR => ?_) nI'
    refine x_goto (tgt := 105) dX1_ofMaid_65 (by decide) ?_
    exact x_iret dX1_ofMaid_105 rfl (pRo rfl hR)
  by_cases e3 : v = nI 3
  · subst e3
    refine x_tableIn (off := 67) (tgt := 68) dX1_ofMaid_1 (by decide) (by decide) rfl (by decide) ?_
    refine x_aload_n dX1_ofMaid_68 0 rfl rfl ?_
    refine x_get dX1_ofMaid_69 vC_1 in_X1 ho 2 (by decide) q281 rfl ?_
    refine x_iload_n dX1_ofMaid_72 1 rfl rfl ?_
    obtain ⟨fa4, ha5, hv6⟩ := hL.arr (i := 0) (by decide)
    refine x_iald (N := 24) (j := m) (v := nI (lG S m)) dX1_ofMaid_73 ha5 rfl (hm) (by decide) (hv6 _ (hm)) ?_
    refine x_goto (tgt := 105) dX1_ofMaid_74 (by decide) ?_
    exact x_iret dX1_ofMaid_105 rfl (pRo rfl RO.rf)
  by_cases e4 : v = nI 4
  · subst e4
    refine x_tableIn (off := 76) (tgt := 77) dX1_ofMaid_1 (by decide) (by decide) rfl (by decide) ?_
    refine x_aload_n dX1_ofMaid_77 0 rfl rfl ?_
    refine x_iload_n dX1_ofMaid_78 1 rfl rfl ?_
    refine x_callV dX1_ofMaid_79 (con_X1_waitsForWhom hL hI hm) (lw_V q1220 q1221 q1222 q86 q1223) (np := 1) (by decide +kernel) rfl (rcv_of vC_1 ho) ⟨Nat.le_of_ble_eq_true rfl, Nat.le_of_ble_eq_true rfl⟩ (Nat.le_of_ble_eq_true rfl) rfl (by omega) (by omega) (rP fun σ7 hR => ?_) nI'
    refine x_goto (tgt := 105) dX1_ofMaid_82 (by decide) ?_
    exact x_iret dX1_ofMaid_105 rfl (pRo rfl hR)
  by_cases e5 : v = nI 5
  · subst e5
    refine x_tableIn (off := 84) (tgt := 85) dX1_ofMaid_1 (by decide) (by decide) rfl (by decide) ?_
    refine x_aload_n dX1_ofMaid_85 0 rfl rfl ?_
    refine x_get dX1_ofMaid_86 vC_1 in_X1 ho 3 (by decide) q283 rfl ?_
    refine x_iload_n dX1_ofMaid_89 1 rfl rfl ?_
    obtain ⟨fa8, ha9, hv10⟩ := hL.arr (i := 1) (by decide)
    refine x_iald (N := 24) (j := m) (v := nI (wT S m)) dX1_ofMaid_90 ha9 rfl (hm) (by decide) (hv10 _ (hm)) ?_
    refine x_goto (tgt := 105) dX1_ofMaid_91 (by decide) ?_
    exact x_iret dX1_ofMaid_105 rfl (pRo rfl RO.rf)
  by_cases e6 : v = nI 6
  · subst e6
    refine x_tableIn (off := 93) (tgt := 94) dX1_ofMaid_1 (by decide) (by decide) rfl (by decide) ?_
    refine x_aload_n dX1_ofMaid_94 0 rfl rfl ?_
    refine x_get dX1_ofMaid_95 vC_1 in_X1 ho 4 (by decide) q285 rfl ?_
    refine x_iload_n dX1_ofMaid_98 1 rfl rfl ?_
    obtain ⟨fa11, ha12, hv13⟩ := hL.arr (i := 2) (by decide)
    refine x_iald (N := 24) (j := m) (v := nI (gT S m)) dX1_ofMaid_99 ha12 rfl (hm) (by decide) (hv13 _ (hm)) ?_
    refine x_goto (tgt := 105) dX1_ofMaid_100 (by decide) ?_
    exact x_iret dX1_ofMaid_105 rfl (pRo rfl RO.rf)
  refine x_tableOut (tgt := 103) dX1_ofMaid_1 (sw_out (n := 7) (by decide) (fun j hj => match j, hj with | 0, _ => e0 | 1, _ => e1 | 2, _ => e2 | 3, _ => e3 | 4, _ => e4 | 5, _ => e5 | 6, _ => e6 | _ + 7, hj => absurd hj (by omega))) (by decide) ?_
  refine x_bipush (v := (-12)) dX1_ofMaid_103 (by decide) ?_
  exact x_iret dX1_ofMaid_105 rfl (pRo (by unfold mOf; rw [if_neg e0, if_neg e1, if_neg e2, if_neg e3, if_neg e4, if_neg e5, if_neg e6]) RO.rf)
set_option maxHeartbeats 4000000 in
set_option maxRecDepth 100000 in
theorem con_X1_heldBy {l : Launch} {G : YG} {σ : AH} {a : Nat} {ad : Nat → Nat} {N : Nat → NL} {mc : Nat → Int32} {S : AS} {m : Nat} {p : Int32} (hL : LD σ a ad N mc S) (hI : IV S) (hm : m < 24) : Con l yX1_heldBy cX1_heldBy 5 (some FieldType.int) G 1 0 0 [.ref a, .int (nI m), .int p] σ (PS σ (pickF (lockF S m) (cn (lockF S m)) p 8 0)) := by
  refine con_of (by decide) (Nat.le_of_ble_eq_true rfl) ?_
  refine x_locs (L' := [(0, .ref a), (1, .int (nI m)), (2, .int p)]) [0, 1, 2] rfl ?_
  have ho := hL.o
  refine x_iconst (v := nI 0) dX1_heldBy_0 (by decide) ?_
  refine x_istore_n (i := 3) (L' := [(3, .int (nI 0)), (0, .ref a), (1, .int (nI m)), (2, .int p)]) dX1_heldBy_1 rfl (by decide) rfl ?_
  refine x_iconst (v := nI 0) dX1_heldBy_2 (by decide) ?_
  refine x_istore (i := 4) (L' := [(4, .int (nI 0)), (3, .int (nI 0)), (0, .ref a), (1, .int (nI m)), (2, .int p)]) dX1_heldBy_3 (by decide) rfl ?_
  refine x_locs (L' := [(0, .ref a), (1, .int (nI m)), (2, .int p), (3, .int (nI 0)), (4, .int (nI 0))]) [2, 3, 4, 1, 0] rfl ?_
  suffices loop : ∀ (d i : Nat), i + d = 8 → pickF (lockF S m) (cn (lockF S m)) p 8 0 = pickF (lockF S m) (cn (lockF S m)) p d i → X l yX1_heldBy cX1_heldBy 5 (some FieldType.int) [] G (yroom 1 0 0) (yEnd G (yroom 1 0 0) (PS σ (pickF (lockF S m) (cn (lockF S m)) p 8 0))) 5 [(0, .ref a), (1, .int (nI m)), (2, .int p), (3, .int (nI (cn (lockF S m) i))), (4, .int (nI i))] [] σ 0 0 from loop (8) 0 (Nat.zero_add _) rfl
  intro d
  induction d with
  | zero =>
    intro i hi hco
    have hin : i = 8 := by omega
    subst hin
    refine x_iload dX1_heldBy_5 4 rfl ?_
    refine x_bipush (v := nI 8) dX1_heldBy_7 (by decide) ?_
    refine x_icmp_ge (tgt := 41) dX1_heldBy_9 (by decide) (fun _ => ?_) (fun h_ => absurd (by decide) h_)
    refine x_bipush (v := (-11)) dX1_heldBy_41 (by decide) ?_
    exact x_iret dX1_heldBy_43 rfl (pS' (by rw [hco]; rfl))
  | succ d ih =>
    intro i hi hco
    have hcn := cn_le (f := lockF S m) (n := i)
    refine x_iload dX1_heldBy_5 4 rfl ?_
    refine x_bipush (v := nI 8) dX1_heldBy_7 (by decide) ?_
    refine x_icmp_ge (tgt := 41) dX1_heldBy_9 (by decide) (fun h_ => absurd h_ (fun h => absurd (nLe (by omega) (by omega) h) (by omega))) (fun _ => ?_)
    have h2 := hI.2.2.1 m i
    refine x_aload_n dX1_heldBy_12 0 rfl rfl ?_
    refine x_get dX1_heldBy_13 vC_1 in_X1 ho 0 (by decide) q277 rfl ?_
    refine x_iload_n dX1_heldBy_16 1 rfl rfl ?_
    obtain ⟨fh1, hh2, hv3⟩ := hL.2.1
    refine x_aald7 (N := 24) (j := m) dX1_heldBy_17 hh2 rfl (hm) (by decide) (hv3 _ (hm)) ?_
    refine x_iload dX1_heldBy_18 4 rfl ?_
    obtain ⟨fr4, hr5, hw6⟩ := hL.row (m := m) (hm)
    refine x_sald (N := 8) (j := i) (v := nI (hw S m i)) dX1_heldBy_20 hr5 rfl (by omega) (by decide) (hw6 _ (by omega)) ?_
    refine x_if_eq (tgt := 35) dX1_heldBy_21 (by decide) (fun c1 => ?_) (fun c1 => ?_)
    · have c1 := n0 (by omega) c1
      have hf : (lockF S m) i = false := by
        show (!(_ == 0)) = false
        simp [c1]
      have hs := cn_f0 hf
      refine x_iinc (i := 4) (q := 4) (v := nI (i + 1)) (L' := [(4, .int (nI (i + 1))), (0, .ref a), (1, .int (nI m)), (2, .int p), (3, .int (nI (cn (lockF S m) i)))]) dX1_heldBy_35 rfl (nI_1 _) (by decide) rfl ?_
      refine x_goto (tgt := 5) dX1_heldBy_38 (by decide) ?_
      refine x_locs (L' := [(0, .ref a), (1, .int (nI m)), (2, .int p), (3, .int (nI (cn (lockF S m) i))), (4, .int (nI (i + 1)))]) [1, 2, 3, 4, 0] rfl ?_
      rw [← hs]
      exact ih (i + 1) (by omega) (hco.trans (pickF_n (Or.inl hf)))
    · have c1 := nN0 c1
      have hf : (lockF S m) i = true := by
        show (!(_ == 0)) = true
        simp [c1]
      have hs := cn_t hf
      refine x_iload_n dX1_heldBy_24 3 rfl rfl ?_
      refine x_iload_n dX1_heldBy_25 2 rfl rfl ?_
      refine x_icmp_ne (tgt := 32) dX1_heldBy_26 (by decide) (fun c3 => ?_) (fun c3 => ?_)
      · refine x_iinc (i := 3) (q := 3) (v := nI (cn (lockF S m) i + 1)) (L' := [(3, .int (nI (cn (lockF S m) i + 1))), (0, .ref a), (1, .int (nI m)), (2, .int p), (4, .int (nI i))]) dX1_heldBy_32 rfl (nI_1 _) (by decide) rfl ?_
        refine x_iinc (i := 4) (q := 4) (v := nI (i + 1)) (L' := [(4, .int (nI (i + 1))), (3, .int (nI (cn (lockF S m) i + 1))), (0, .ref a), (1, .int (nI m)), (2, .int p)]) dX1_heldBy_35 rfl (nI_1 _) (by decide) rfl ?_
        refine x_goto (tgt := 5) dX1_heldBy_38 (by decide) ?_
        refine x_locs (L' := [(0, .ref a), (1, .int (nI m)), (2, .int p), (3, .int (nI (cn (lockF S m) i + 1))), (4, .int (nI (i + 1)))]) [2, 3, 4, 1, 0] rfl ?_
        rw [← hs]
        exact ih (i + 1) (by omega) (hco.trans (pickF_n (Or.inr c3)))
      · refine x_iload dX1_heldBy_29 4 rfl ?_
        exact x_iret dX1_heldBy_31 rfl (pS' (by rw [hco, pickF_y hf c3]))
theorem held_f {S : AS} (hI : IV S) {s j : Nat} (h : tH S j = false) : heldF S s j = false := by
  cases e : heldF S s j with
  | false => rfl
  | true =>
    have h0 : hw S j s ≠ 0 := fun z => by
      have : (!(hw S j s == 0)) = true := e
      rw [z] at this
      cases this
    rw [hI.2.2.2.1 j s h0] at h
    cases h
theorem cn_hi {f : Nat → Bool} {c : Nat} (h : ∀ i, c ≤ i → f i = false) : ∀ n, c ≤ n → cn f n = cn f c := by
  intro n
  induction n with
  | zero => intro hn; rw [Nat.le_zero.mp hn]
  | succ n ih =>
    intro hn
    by_cases e : n + 1 = c
    · rw [e]
    · rw [cn_f (h n (by omega)), Nat.add_zero, ih (by omega)]
theorem not_th {S : AS} (hI : IV S) {j : Nat} (h : nC S ≤ j) : tH S j = false := by
  cases e : tH S j with
  | false => rfl
  | true => have := hI.th e; omega
theorem held_24 {S : AS} (hI : IV S) {s : Nat} : cn (heldF S s) 24 = cn (heldF S s) (nC S) := cn_hi (fun i hi => held_f hI (not_th hI hi)) 24 hI.c
set_option maxHeartbeats 4000000 in
set_option maxRecDepth 100000 in
theorem con_X1_holders {l : Launch} {G : YG} {σ : AH} {a : Nat} {ad : Nat → Nat} {N : Nat → NL} {mc : Nat → Int32} {S : AS} {s : Nat} (hL : LD σ a ad N mc S) (hI : IV S) (hs : s < 8) : Con l yX1_holders cX1_holders 5 (some FieldType.int) G 5 2 3 [.ref a, .int (nI s)] σ (PRO σ (nI (cn (heldF S s) (nC S)))) := by
  refine con_of (by decide) (Nat.le_of_ble_eq_true rfl) ?_
  refine x_locs (L' := [(0, .ref a), (1, .int (nI s))]) [0, 1] rfl ?_
  have ho := hL.o
  have hL0 := hL
  refine x_iconst (v := nI 0) dX1_holders_0 (by decide) ?_
  refine x_istore_n (i := 2) (L' := [(2, .int (nI 0)), (0, .ref a), (1, .int (nI s))]) dX1_holders_1 rfl (by decide) rfl ?_
  refine x_aload_n dX1_holders_2 1 rfl rfl ?_
  refine x_callV dX1_holders_3 (con_X1_maids hL) (lw_V q1130 q1131 q1132 q86 q1133) (np := 0) (by decide +kernel) rfl (rcv_of vC_1 ho) ⟨Nat.le_of_ble_eq_true rfl, Nat.le_of_ble_eq_true rfl⟩ (Nat.le_of_ble_eq_true rfl) rfl (by omega) (by omega) (rA fun it2 σ3 hm1 => ?_) nA'
  obtain ⟨it2n, it2c, it2u⟩ := hm1
  have hL := hL.ro (ro_new it2n it2u)
  have ho := hL.o
  refine x_callF dX1_holders_6 (con_X5_iterator it2c) (lw_F q1148 q1152 q1154 q120 q1156) q1150 q1149 q1155 q1153 q1151 (np := 0) (by decide +kernel) rfl vC_5 it2c ⟨Nat.le_of_ble_eq_true rfl, Nat.le_of_ble_eq_true rfl⟩ (Nat.le_of_ble_eq_true rfl) rfl (by omega) (by omega) (rA fun b σ5 hm4 => ?_) nA'
  obtain ⟨bn0, bc, bu⟩ := hm4
  have hL := hL.ro (ro_new bn0 bu)
  have ho := hL.o
  have bn : σ b = none := ((RO.rf).tr (ro_new it2n it2u)).nn bn0
  have hRb := ((RO.rf).tr (ro_new it2n it2u)).tr (ro_new bn0 bu)
  refine x_astore_n (i := 3) (L' := [(3, .ref b), (2, .int (nI 0)), (0, .ref a), (1, .int (nI s))]) dX1_holders_11 rfl (by decide) rfl ?_
  refine x_locs (L' := [(0, .ref a), (1, .int (nI s)), (2, .int (nI 0)), (3, .ref b)]) [2, 3, 1, 0] rfl ?_
  suffices loop : ∀ (d j : Nat) (τ : AH) (z : Int32) (k n : Nat), j + d = 24 → RO σ τ → τ b = some (.inr (6, [.int z])) → BS z (fun i => decide (j ≤ i) && tH S i) → X l yX1_holders cX1_holders 5 (some FieldType.int) [] G (yroom 5 2 3) (yEnd G (yroom 5 2 3) (PRO σ (nI (cn (heldF S s) (nC S))))) 12 [(0, .ref a), (1, .int (nI s)), (2, .int (nI (cn (heldF S s) j))), (3, .ref b)] [] τ k n from loop 24 0 _ _ _ _ (Nat.zero_add _) (hRb) bc (encB_BS _) 
  intro d
  induction d with
  | zero =>
    intro j τ z k n hj hR hc hz
    have hL := hL0.ro hR
    have ho := hL.o
    have hj24 : j = 24 := by omega
    subst hj24
    have hz0 : z = 0 := hz.zero_iff.mpr (fun i hi => by rw [decide_eq_false (by omega)]; rfl)
    refine x_aload_n dX1_holders_12 3 rfl rfl ?_
    refine x_callF dX1_holders_13 (con_X6_hasNext hc) (lw_F q509 q513 q515 q121 q517) q511 q510 q516 q514 q512 (np := 0) (by decide +kernel) rfl vC_6 hc ⟨Nat.le_of_ble_eq_true rfl, Nat.le_of_ble_eq_true rfl⟩ (Nat.le_of_ble_eq_true rfl) rfl (Nat.zero_le _) (Nat.zero_le _) (rS ?_) nI'
    refine x_top (x' := 0) (by rw [hz0]; rfl) ?_
    refine x_if_eq (tgt := 58) dX1_holders_18 (by decide) (fun _ => ?_) (fun h_ => absurd (rfl) h_)
    refine x_iload_n dX1_holders_58 2 rfl rfl ?_
    exact x_iret dX1_holders_59 rfl (pRo (by rw [held_24 hI]) hR)
  | succ d ih =>
    intro j τ z k n hj hR hc hz
    have hL := hL0.ro hR
    have ho := hL.o
    by_cases ht : tH S j = true
    · have hjC := hI.th ht
      have hC := hI.c
      have hfj : (decide (j ≤ j) && tH S j) = true := by rw [ht]; simp
      have hlo : ∀ i, i < j → (decide (j ≤ i) && tH S i) = false := fun i hi => by rw [decide_eq_false (by omega)]; rfl
      have hzn : z ≠ 0 := fun e => by have := hz.zero_iff.mp e j (by omega); rw [hfj] at this; cases this
      refine x_aload_n dX1_holders_12 3 rfl rfl ?_
      refine x_callF dX1_holders_13 (con_X6_hasNext hc) (lw_F q509 q513 q515 q121 q517) q511 q510 q516 q514 q512 (np := 0) (by decide +kernel) rfl vC_6 hc ⟨Nat.le_of_ble_eq_true rfl, Nat.le_of_ble_eq_true rfl⟩ (Nat.le_of_ble_eq_true rfl) rfl (Nat.zero_le _) (Nat.zero_le _) (rS ?_) nI'
      refine x_top (x' := 1) (by rw [decide_eq_true hzn]; rfl) ?_
      refine x_if_eq (tgt := 58) dX1_holders_18 (by decide) (fun h_ => absurd h_ (by decide)) (fun _ => ?_)
      refine x_aload_n dX1_holders_21 3 rfl rfl ?_
      refine x_callF dX1_holders_22 (con_X6_next hc hz (by omega) hfj hlo) (lw_F q555 q558 q560 q121 q562) q557 q556 q561 q559 q512 (np := 0) (by decide +kernel) rfl vC_6 hc ⟨Nat.le_of_ble_eq_true rfl, Nat.le_of_ble_eq_true rfl⟩ (Nat.le_of_ble_eq_true rfl) rfl (Nat.zero_le _) (Nat.zero_le _) (rA fun u σ9 h8 => ?_) nA'
      obtain ⟨rfl, hc, hbu⟩ := h8
      have hR := hR.nx bn hbu
      have hL := hL0.ro hR
      have ho := hL.o
      have hz := BS.stepT hz (by omega) hfj hlo
      refine x_ckcast dX1_holders_27 q1211 (bx_rc (by omega)) ?_
      refine x_callV dX1_holders_30 (con_J20_intValue (n := j) (by omega)) (lw_V q1212 q1213 q1214 q110 q1215) (np := 0) (by decide +kernel) rfl (bx_rc (by omega)) ⟨Nat.le_of_ble_eq_true rfl, Nat.le_of_ble_eq_true rfl⟩ (Nat.le_of_ble_eq_true rfl) rfl (Nat.zero_le _) (Nat.zero_le _) (rS ?_) nI'
      have h2 := hI.2.2.1 j s
      refine x_istore (i := 4) (L' := [(4, .int (nI j)), (0, .ref a), (1, .int (nI s)), (2, .int (nI (cn (heldF S s) j))), (3, .ref b)]) dX1_holders_33 (by decide) rfl ?_
      refine x_iload_n dX1_holders_35 3 rfl rfl ?_
      refine x_aload_n dX1_holders_36 1 rfl rfl ?_
      refine x_get dX1_holders_37 vC_1 in_X1 ho 0 (by decide) q277 rfl ?_
      refine x_iload dX1_holders_40 0 rfl ?_
      obtain ⟨fh11, hh12, hv13⟩ := hL.2.1
      refine x_aald7 (N := 24) (j := j) dX1_holders_42 hh12 rfl (by omega) (by decide) (hv13 _ (by omega)) ?_
      refine x_iload_n dX1_holders_43 2 rfl rfl ?_
      obtain ⟨fr14, hr15, hw16⟩ := hL.row (m := j) (by omega)
      refine x_sald (N := 8) (j := s) (v := nI (hw S j s)) dX1_holders_44 hr15 rfl (hs) (by decide) (hw16 _ (hs)) ?_
      refine x_if_eq (tgt := 52) dX1_holders_45 (by decide) (fun c1 => ?_) (fun c1 => ?_)
      · have c1 := n0 (by omega) c1
        have hf : heldF S s j = false := by
          show (!(_ == 0)) = false
          simp [c1]
        have hs2 := cn_f hf
        refine x_iconst (v := nI 0) dX1_holders_52 (by decide) ?_
        refine x_iadd dX1_holders_53 ?_
        refine x_top (x' := nI (cn (heldF S s) j + 0)) (nI_add _ _) ?_
        refine x_istore_n (i := 2) (L' := [(2, .int (nI (cn (heldF S s) j + 0))), (4, .int (nI j)), (0, .ref a), (1, .int (nI s)), (3, .ref b)]) dX1_holders_54 rfl (by decide) rfl ?_
        refine x_goto (tgt := 12) dX1_holders_55 (by decide) ?_
        refine x_locs (L' := [(0, .ref a), (1, .int (nI s)), (2, .int (nI (cn (heldF S s) j + 0))), (3, .ref b)]) [2, 3, 0, 4] rfl ?_
        rw [← hs2]
        exact ih (j + 1) _ _ _ _ (by omega) hR hc hz
      · have c1 := nN0 c1
        have hf : heldF S s j = true := by
          show (!(_ == 0)) = true
          simp [c1]
        have hs2 := cn_t hf
        refine x_iconst (v := nI 1) dX1_holders_48 (by decide) ?_
        refine x_goto (tgt := 53) dX1_holders_49 (by decide) ?_
        refine x_iadd dX1_holders_53 ?_
        refine x_top (x' := nI (cn (heldF S s) j + 1)) (nI_add _ _) ?_
        refine x_istore_n (i := 2) (L' := [(2, .int (nI (cn (heldF S s) j + 1))), (4, .int (nI j)), (0, .ref a), (1, .int (nI s)), (3, .ref b)]) dX1_holders_54 rfl (by decide) rfl ?_
        refine x_goto (tgt := 12) dX1_holders_55 (by decide) ?_
        refine x_locs (L' := [(0, .ref a), (1, .int (nI s)), (2, .int (nI (cn (heldF S s) j + 1))), (3, .ref b)]) [2, 3, 0, 4] rfl ?_
        rw [← hs2]
        exact ih (j + 1) _ _ _ _ (by omega) hR hc hz
    · have hf : tH S j = false := by cases h : tH S j; rfl; exact absurd h ht
      have hs2 := cn_f0 (held_f hI (s := s) hf)
      rw [← hs2]
      exact ih (j + 1) _ _ _ _ (by omega) hR hc (hz.stepF hf)
theorem pick_hi {f : Nat → Bool} {g : Nat → Nat} {p : Int32} {c : Nat} (h : ∀ i, c ≤ i → f i = false) : ∀ d k, c ≤ k → pickF f g p d k = -11 := by
  intro d
  induction d with
  | zero => intro k _; rfl
  | succ d ih => intro k hk; rw [pickF_n (Or.inl (h k hk))]; exact ih (k + 1) (by omega)
theorem pick_cut {f : Nat → Bool} {g : Nat → Nat} {p : Int32} {c : Nat} (h : ∀ i, c ≤ i → f i = false) : ∀ d e k, k + d = c → pickF f g p (d + e) k = pickF f g p d k := by
  intro d
  induction d with
  | zero => intro e k hk; rw [Nat.zero_add]; exact pick_hi h e k (by omega)
  | succ d ih =>
    intro e k hk
    rw [show d + 1 + e = d + e + 1 by omega]
    by_cases q : f k = true ∧ nI (g k) = p
    · rw [pickF_y q.1 q.2, pickF_y q.1 q.2]
    · have q' : f k = false ∨ nI (g k) ≠ p := by
        cases e2 : f k with
        | false => exact Or.inl rfl
        | true => exact Or.inr (fun z => q ⟨e2, z⟩)
      rw [pickF_n q', pickF_n q', ih e (k + 1) (by omega)]
theorem pick_24 {f : Nat → Bool} {g : Nat → Nat} {p : Int32} {c : Nat} (hc : c ≤ 24) (h : ∀ i, c ≤ i → f i = false) : pickF f g p 24 0 = pickF f g p c 0 := by
  have := pick_cut (g := g) (p := p) h c (24 - c) 0 (Nat.zero_add _)
  rw [show c + (24 - c) = 24 by omega] at this
  exact this
set_option maxHeartbeats 4000000 in
set_option maxRecDepth 100000 in
theorem con_X1_holder {l : Launch} {G : YG} {σ : AH} {a : Nat} {ad : Nat → Nat} {N : Nat → NL} {mc : Nat → Int32} {S : AS} {s : Nat} {p : Int32} (hL : LD σ a ad N mc S) (hI : IV S) (hs : s < 8) : Con l yX1_holder cX1_holder 6 (some FieldType.int) G 5 2 3 [.ref a, .int (nI s), .int p] σ (PRO σ (pickF (heldF S s) (cn (heldF S s)) p (nC S) 0)) := by
  refine con_of (by decide) (Nat.le_of_ble_eq_true rfl) ?_
  refine x_locs (L' := [(0, .ref a), (1, .int (nI s)), (2, .int p)]) [0, 1, 2] rfl ?_
  have ho := hL.o
  have hL0 := hL
  rw [← pick_24 hI.c (fun i hi => held_f hI (not_th hI hi))]
  refine x_iconst (v := nI 0) dX1_holder_0 (by decide) ?_
  refine x_istore_n (i := 3) (L' := [(3, .int (nI 0)), (0, .ref a), (1, .int (nI s)), (2, .int p)]) dX1_holder_1 rfl (by decide) rfl ?_
  refine x_aload_n dX1_holder_2 1 rfl rfl ?_
  refine x_callV dX1_holder_3 (con_X1_maids hL) (lw_V q1130 q1131 q1132 q86 q1133) (np := 0) (by decide +kernel) rfl (rcv_of vC_1 ho) ⟨Nat.le_of_ble_eq_true rfl, Nat.le_of_ble_eq_true rfl⟩ (Nat.le_of_ble_eq_true rfl) rfl (by omega) (by omega) (rA fun it2 σ3 hm1 => ?_) nA'
  obtain ⟨it2n, it2c, it2u⟩ := hm1
  have hL := hL.ro (ro_new it2n it2u)
  have ho := hL.o
  refine x_callF dX1_holder_6 (con_X5_iterator it2c) (lw_F q1148 q1152 q1154 q120 q1156) q1150 q1149 q1155 q1153 q1151 (np := 0) (by decide +kernel) rfl vC_5 it2c ⟨Nat.le_of_ble_eq_true rfl, Nat.le_of_ble_eq_true rfl⟩ (Nat.le_of_ble_eq_true rfl) rfl (by omega) (by omega) (rA fun b σ5 hm4 => ?_) nA'
  obtain ⟨bn0, bc, bu⟩ := hm4
  have hL := hL.ro (ro_new bn0 bu)
  have ho := hL.o
  have bn : σ b = none := ((RO.rf).tr (ro_new it2n it2u)).nn bn0
  have hRb := ((RO.rf).tr (ro_new it2n it2u)).tr (ro_new bn0 bu)
  refine x_astore (i := 4) (L' := [(4, .ref b), (3, .int (nI 0)), (0, .ref a), (1, .int (nI s)), (2, .int p)]) dX1_holder_11 (by decide) rfl ?_
  refine x_locs (L' := [(0, .ref a), (1, .int (nI s)), (2, .int p), (3, .int (nI 0)), (4, .ref b)]) [2, 3, 4, 1, 0] rfl ?_
  suffices loop : ∀ (d j : Nat) (τ : AH) (z : Int32) (k n : Nat), j + d = 24 → RO σ τ → τ b = some (.inr (6, [.int z])) → BS z (fun i => decide (j ≤ i) && tH S i) → pickF (heldF S s) (cn (heldF S s)) p 24 0 = pickF (heldF S s) (cn (heldF S s)) p d j → X l yX1_holder cX1_holder 6 (some FieldType.int) [] G (yroom 5 2 3) (yEnd G (yroom 5 2 3) (PRO σ (pickF (heldF S s) (cn (heldF S s)) p 24 0))) 13 [(0, .ref a), (1, .int (nI s)), (2, .int p), (3, .int (nI (cn (heldF S s) j))), (4, .ref b)] [] τ k n from loop 24 0 _ _ _ _ (Nat.zero_add _) (hRb) bc (encB_BS _)  rfl
  intro d
  induction d with
  | zero =>
    intro j τ z k n hj hR hc hz hco
    have hL := hL0.ro hR
    have ho := hL.o
    have hj24 : j = 24 := by omega
    subst hj24
    have hz0 : z = 0 := hz.zero_iff.mpr (fun i hi => by rw [decide_eq_false (by omega)]; rfl)
    refine x_aload dX1_holder_13 4 rfl ?_
    refine x_callF dX1_holder_15 (con_X6_hasNext hc) (lw_F q509 q513 q515 q121 q517) q511 q510 q516 q514 q512 (np := 0) (by decide +kernel) rfl vC_6 hc ⟨Nat.le_of_ble_eq_true rfl, Nat.le_of_ble_eq_true rfl⟩ (Nat.le_of_ble_eq_true rfl) rfl (Nat.zero_le _) (Nat.zero_le _) (rS ?_) nI'
    refine x_top (x' := 0) (by rw [hz0]; rfl) ?_
    refine x_if_eq (tgt := 64) dX1_holder_20 (by decide) (fun _ => ?_) (fun h_ => absurd (rfl) h_)
    refine x_bipush (v := (-11)) dX1_holder_64 (by decide) ?_
    exact x_iret dX1_holder_66 rfl (pRo (by rw [hco]; rfl) hR)
  | succ d ih =>
    intro j τ z k n hj hR hc hz hco
    have hL := hL0.ro hR
    have ho := hL.o
    by_cases ht : tH S j = true
    · have hjC := hI.th ht
      have hC := hI.c
      have hfj : (decide (j ≤ j) && tH S j) = true := by rw [ht]; simp
      have hlo : ∀ i, i < j → (decide (j ≤ i) && tH S i) = false := fun i hi => by rw [decide_eq_false (by omega)]; rfl
      have hzn : z ≠ 0 := fun e => by have := hz.zero_iff.mp e j (by omega); rw [hfj] at this; cases this
      refine x_aload dX1_holder_13 4 rfl ?_
      refine x_callF dX1_holder_15 (con_X6_hasNext hc) (lw_F q509 q513 q515 q121 q517) q511 q510 q516 q514 q512 (np := 0) (by decide +kernel) rfl vC_6 hc ⟨Nat.le_of_ble_eq_true rfl, Nat.le_of_ble_eq_true rfl⟩ (Nat.le_of_ble_eq_true rfl) rfl (Nat.zero_le _) (Nat.zero_le _) (rS ?_) nI'
      refine x_top (x' := 1) (by rw [decide_eq_true hzn]; rfl) ?_
      refine x_if_eq (tgt := 64) dX1_holder_20 (by decide) (fun h_ => absurd h_ (by decide)) (fun _ => ?_)
      refine x_aload dX1_holder_23 4 rfl ?_
      refine x_callF dX1_holder_25 (con_X6_next hc hz (by omega) hfj hlo) (lw_F q555 q558 q560 q121 q562) q557 q556 q561 q559 q512 (np := 0) (by decide +kernel) rfl vC_6 hc ⟨Nat.le_of_ble_eq_true rfl, Nat.le_of_ble_eq_true rfl⟩ (Nat.le_of_ble_eq_true rfl) rfl (Nat.zero_le _) (Nat.zero_le _) (rA fun u σ9 h8 => ?_) nA'
      obtain ⟨rfl, hc, hbu⟩ := h8
      have hR := hR.nx bn hbu
      have hL := hL0.ro hR
      have ho := hL.o
      have hz := BS.stepT hz (by omega) hfj hlo
      refine x_ckcast dX1_holder_30 q1211 (bx_rc (by omega)) ?_
      refine x_callV dX1_holder_33 (con_J20_intValue (n := j) (by omega)) (lw_V q1212 q1213 q1214 q110 q1215) (np := 0) (by decide +kernel) rfl (bx_rc (by omega)) ⟨Nat.le_of_ble_eq_true rfl, Nat.le_of_ble_eq_true rfl⟩ (Nat.le_of_ble_eq_true rfl) rfl (Nat.zero_le _) (Nat.zero_le _) (rS ?_) nI'
      have h2 := hI.2.2.1 j s
      have hcn := cn_le (f := heldF S s) (n := j)
      refine x_istore (i := 5) (L' := [(5, .int (nI j)), (0, .ref a), (1, .int (nI s)), (2, .int p), (3, .int (nI (cn (heldF S s) j))), (4, .ref b)]) dX1_holder_36 (by decide) rfl ?_
      refine x_aload_n dX1_holder_38 1 rfl rfl ?_
      refine x_get dX1_holder_39 vC_1 in_X1 ho 0 (by decide) q277 rfl ?_
      refine x_iload dX1_holder_42 0 rfl ?_
      obtain ⟨fh11, hh12, hv13⟩ := hL.2.1
      refine x_aald7 (N := 24) (j := j) dX1_holder_44 hh12 rfl (by omega) (by decide) (hv13 _ (by omega)) ?_
      refine x_iload_n dX1_holder_45 2 rfl rfl ?_
      obtain ⟨fr14, hr15, hw16⟩ := hL.row (m := j) (by omega)
      refine x_sald (N := 8) (j := s) (v := nI (hw S j s)) dX1_holder_46 hr15 rfl (hs) (by decide) (hw16 _ (hs)) ?_
      refine x_if_eq (tgt := 61) dX1_holder_47 (by decide) (fun c1 => ?_) (fun c1 => ?_)
      · have c1 := n0 (by omega) c1
        have hf : heldF S s j = false := by
          show (!(_ == 0)) = false
          simp [c1]
        have hs2 := cn_f0 hf
        refine x_goto (tgt := 13) dX1_holder_61 (by decide) ?_
        refine x_locs (L' := [(0, .ref a), (1, .int (nI s)), (2, .int p), (3, .int (nI (cn (heldF S s) j))), (4, .ref b)]) [1, 2, 3, 4, 5] rfl ?_
        rw [← hs2]
        exact ih (j + 1) _ _ _ _ (by omega) hR hc hz (hco.trans (pickF_n (Or.inl hf)))
      · have c1 := nN0 c1
        have hf : heldF S s j = true := by
          show (!(_ == 0)) = true
          simp [c1]
        have hs2 := cn_t hf
        refine x_iload_n dX1_holder_50 4 rfl rfl ?_
        refine x_iload_n dX1_holder_51 3 rfl rfl ?_
        refine x_icmp_ne (tgt := 58) dX1_holder_52 (by decide) (fun c3 => ?_) (fun c3 => ?_)
        · refine x_iinc (i := 3) (q := 4) (v := nI (cn (heldF S s) j + 1)) (L' := [(3, .int (nI (cn (heldF S s) j + 1))), (5, .int (nI j)), (0, .ref a), (1, .int (nI s)), (2, .int p), (4, .ref b)]) dX1_holder_58 rfl (nI_1 _) (by decide) rfl ?_
          refine x_goto (tgt := 13) dX1_holder_61 (by decide) ?_
          refine x_locs (L' := [(0, .ref a), (1, .int (nI s)), (2, .int p), (3, .int (nI (cn (heldF S s) j + 1))), (4, .ref b)]) [2, 3, 4, 0, 5] rfl ?_
          rw [← hs2]
          exact ih (j + 1) _ _ _ _ (by omega) hR hc hz (hco.trans (pickF_n (Or.inr c3)))
        · refine x_iload dX1_holder_55 0 rfl ?_
          exact x_iret dX1_holder_57 rfl (pRo (by rw [hco, pickF_y hf c3]) hR)
    · have hf : tH S j = false := by cases h : tH S j; rfl; exact absurd h ht
      have hs2 := cn_f0 (held_f hI (s := s) hf)
      rw [← hs2]
      exact ih (j + 1) _ _ _ _ (by omega) hR hc (hz.stepF hf) (hco.trans (pickF_n (Or.inl (held_f hI hf))))
set_option maxHeartbeats 4000000 in
set_option maxRecDepth 100000 in
theorem con_X1_soleWishes {l : Launch} {G : YG} {σ : AH} {a : Nat} {ad : Nat → Nat} {N : Nat → NL} {mc : Nat → Int32} {S : AS} {s : Nat} (hL : LD σ a ad N mc S) (hI : IV S) (hs : s < 8) : Con l yX1_soleWishes cX1_soleWishes 5 (some FieldType.int) G 6 1 5 [.ref a, .int (nI s)] σ (PRO σ (nI (cn (solF S s) (qu S s).length))) := by
  refine con_of (by decide) (Nat.le_of_ble_eq_true rfl) ?_
  refine x_locs (L' := [(0, .ref a), (1, .int (nI s))]) [0, 1] rfl ?_
  have ho := hL.o
  have hL0 := hL
  have hl8 := hI.len hs
  refine x_iconst (v := nI 0) dX1_soleWishes_0 (by decide) ?_
  refine x_istore_n (i := 2) (L' := [(2, .int (nI 0)), (0, .ref a), (1, .int (nI s))]) dX1_soleWishes_1 rfl (by decide) rfl ?_
  refine x_aload_n dX1_soleWishes_2 1 rfl rfl ?_
  refine x_get dX1_soleWishes_3 vC_1 in_X1 ho 1 (by decide) q279 rfl ?_
  refine x_iload_n dX1_soleWishes_6 2 rfl rfl ?_
  refine x_callV dX1_soleWishes_7 (con_J2_get hL.al (lYs_at hs)) (lw_V q407 q408 q409 q89 q410) (np := 1) (by decide +kernel) rfl hL.al.rc ⟨Nat.le_of_ble_eq_true rfl, Nat.le_of_ble_eq_true rfl⟩ (Nat.le_of_ble_eq_true rfl) rfl (Nat.zero_le _) (Nat.zero_le _) (rSA ?_) nA'
  refine x_ckcast dX1_soleWishes_10 q183 (hL.ll hs).rc ?_
  refine x_callU dX1_soleWishes_13 (con_J3_iterator (hL.ll hs)) (lw_U q421 q422 q424 q425 q90 q426) rfl (np := 0) (by decide +kernel) rfl (hL.ll hs).rc ⟨Nat.le_of_ble_eq_true rfl, Nat.le_of_ble_eq_true rfl⟩ (Nat.le_of_ble_eq_true rfl) rfl (by omega) (by omega) (rA fun z σ2 hi1 => ?_) nA'
  obtain ⟨zn, zI, zR⟩ := hi1
  have hL := hL.ro (zR)
  have ho := hL.o
  have hR := zR
  refine x_astore_n (i := 3) (L' := [(3, .ref z), (2, .int (nI 0)), (0, .ref a), (1, .int (nI s))]) dX1_soleWishes_16 rfl (by decide) rfl ?_
  refine x_locs (L' := [(0, .ref a), (1, .int (nI s)), (2, .int (nI 0)), (3, .ref z)]) [2, 3, 1, 0] rfl ?_
  suffices loop : ∀ (d j : Nat) (τ : AH) (la : Option Nat) (k n : Nat), j + d = (qu S s).length → RO σ τ → LI τ z (ad (10 + s)) (mc s) (N s) j la → 0 ≤ k → 0 ≤ n → X l yX1_soleWishes cX1_soleWishes 5 (some FieldType.int) [] G (yroom 6 1 5) (yEnd G (yroom 6 1 5) (PRO σ (nI (cn (solF S s) (qu S s).length)))) 17 [(0, .ref a), (1, .int (nI s)), (2, .int (nI (cn (solF S s) j))), (3, .ref z)] [] τ k n from loop _ 0 _ none _ _ (Nat.zero_add _) (hR) zI  (by omega) (by omega)
  intro d
  induction d with
  | zero =>
    intro j τ la k n hj hR hz hk0 hn0
    have hL := hL0.ro hR
    have ho := hL.o
    have hjl : j = (qu S s).length := by omega
    have hNl := (hL.wr hs).1
    refine x_aload_n dX1_soleWishes_17 3 rfl rfl ?_
    refine x_callF dX1_soleWishes_18 (con_J18_hasNext (hL.ll hs) hz (by omega)) (lw_F q509 q549 q551 q108 q553) q511 q510 q552 q550 q548 (np := 0) (by decide +kernel) rfl vC_13 hz ⟨Nat.le_of_ble_eq_true rfl, Nat.le_of_ble_eq_true rfl⟩ (Nat.le_of_ble_eq_true rfl) rfl (Nat.zero_le _) (Nat.zero_le _) (rS ?_) nI'
    refine x_top (x' := 0) (by rw [decide_eq_false (by omega)]; rfl) ?_
    refine x_if_eq (tgt := 57) dX1_soleWishes_23 (by decide) (fun _ => ?_) (fun h_ => absurd (rfl) h_)
    refine x_iload_n dX1_soleWishes_57 2 rfl rfl ?_
    exact x_iret dX1_soleWishes_58 rfl (pRo (by rw [hjl]) hR)
  | succ d ih =>
    intro j τ la k n hj hR hz hk0 hn0
    have hL := hL0.ro hR
    have ho := hL.o
    have hNl := (hL.wr hs).1
    obtain ⟨x, hx⟩ : ∃ x, (N s)[j]? = some x := ⟨_, List.getElem?_eq_getElem (by omega)⟩
    obtain ⟨wv, hwv⟩ : ∃ wv, (qu S s)[j]? = some wv := ⟨_, List.getElem?_eq_getElem (by omega)⟩
    have hwc := (hL.wr hs).2 j x wv hx hwv
    have hwi := hI.w hs (List.mem_of_getElem? hwv)
    have hwC := hI.th hwi.1
    have hC := hI.c
    refine x_aload_n dX1_soleWishes_17 3 rfl rfl ?_
    refine x_callF dX1_soleWishes_18 (con_J18_hasNext (hL.ll hs) hz (by omega)) (lw_F q509 q549 q551 q108 q553) q511 q510 q552 q550 q548 (np := 0) (by decide +kernel) rfl vC_13 hz ⟨Nat.le_of_ble_eq_true rfl, Nat.le_of_ble_eq_true rfl⟩ (Nat.le_of_ble_eq_true rfl) rfl (Nat.zero_le _) (Nat.zero_le _) (rS ?_) nI'
    refine x_top (x' := 1) (by rw [decide_eq_true (by omega)]; rfl) ?_
    refine x_if_eq (tgt := 57) dX1_soleWishes_23 (by decide) (fun h_ => absurd h_ (by decide)) (fun _ => ?_)
    refine x_aload_n dX1_soleWishes_26 3 rfl rfl ?_
    refine x_callF dX1_soleWishes_27 (con_J18_next (hL.ll hs) hz hx) (lw_F q555 q905 q907 q108 q909) q557 q556 q908 q906 q548 (np := 0) (by decide +kernel) rfl vC_13 hz ⟨Nat.le_of_ble_eq_true rfl, Nat.le_of_ble_eq_true rfl⟩ (Nat.le_of_ble_eq_true rfl) rfl (Nat.zero_le _) (Nat.zero_le _) (rA fun u σ6 h5 => ?_) nA'
    obtain ⟨rfl, hz, zU⟩ := h5
    have hR := hR.nx zn zU
    have hL := hL0.ro hR
    have ho := hL.o
    have hwc := (hL.wr hs).2 j x wv hx hwv
    refine x_ckcast dX1_soleWishes_32 q915 (rcv_of vC_4 hwc) ?_
    have hk12 := hwi.2.1
    refine x_astore (i := 4) (L' := [(4, .ref x.2), (0, .ref a), (1, .int (nI s)), (2, .int (nI (cn (solF S s) j))), (3, .ref z)]) dX1_soleWishes_35 (by decide) rfl ?_
    refine x_iload_n dX1_soleWishes_37 3 rfl rfl ?_
    refine x_aload dX1_soleWishes_38 0 rfl ?_
    refine x_getN dX1_soleWishes_40 vC_4 in_X4 hwc 1 (by decide) q1081 rfl ?_
    refine x_iconst (v := nI 2) dX1_soleWishes_43 (by decide) ?_
    refine x_icmp_ne (tgt := 51) dX1_soleWishes_44 (by decide) (fun c1 => ?_) (fun c1 => ?_)
    · have c1 := nNe (by omega) (by omega) c1
      have hf : solF S s j = false := by unfold solF; rw [hwv]; simp [c1]
      have hs2 := cn_f hf
      refine x_iconst (v := nI 0) dX1_soleWishes_51 (by decide) ?_
      refine x_iadd dX1_soleWishes_52 ?_
      refine x_top (x' := nI (cn (solF S s) j + 0)) (nI_add _ _) ?_
      refine x_istore_n (i := 2) (L' := [(2, .int (nI (cn (solF S s) j + 0))), (4, .ref x.2), (0, .ref a), (1, .int (nI s)), (3, .ref z)]) dX1_soleWishes_53 rfl (by decide) rfl ?_
      refine x_goto (tgt := 17) dX1_soleWishes_54 (by decide) ?_
      refine x_locs (L' := [(0, .ref a), (1, .int (nI s)), (2, .int (nI (cn (solF S s) j + 0))), (3, .ref z)]) [2, 3, 0, 4] rfl ?_
      rw [← hs2]
      exact ih (j + 1) _ _ _ _ (by omega) hR hz  (by omega) (by omega)
    · have c1 := nEq (by omega) (by omega) c1
      have hf : solF S s j = true := by unfold solF; rw [hwv]; simp [c1]
      have hs2 := cn_t hf
      refine x_iconst (v := nI 1) dX1_soleWishes_47 (by decide) ?_
      refine x_goto (tgt := 52) dX1_soleWishes_48 (by decide) ?_
      refine x_iadd dX1_soleWishes_52 ?_
      refine x_top (x' := nI (cn (solF S s) j + 1)) (nI_add _ _) ?_
      refine x_istore_n (i := 2) (L' := [(2, .int (nI (cn (solF S s) j + 1))), (4, .ref x.2), (0, .ref a), (1, .int (nI s)), (3, .ref z)]) dX1_soleWishes_53 rfl (by decide) rfl ?_
      refine x_goto (tgt := 17) dX1_soleWishes_54 (by decide) ?_
      refine x_locs (L' := [(0, .ref a), (1, .int (nI s)), (2, .int (nI (cn (solF S s) j + 1))), (3, .ref z)]) [2, 3, 0, 4] rfl ?_
      rw [← hs2]
      exact ih (j + 1) _ _ _ _ (by omega) hR hz  (by omega) (by omega)
theorem oth_99 {S : AS} {s : Nat} (hC : nC S ≤ 24) : oth S s 99 = mx (fun o => hw S o s) (nC S) := by
  unfold oth
  have key : ∀ n, n ≤ 24 → mx (fun o => if o = 99 then 0 else hw S o s) n = mx (fun o => hw S o s) n := by
    intro n
    induction n with
    | zero => intro _; rfl
    | succ n ih =>
      intro hn
      show Nat.max (mx _ n) (if n = 99 then 0 else hw S n s) = Nat.max (mx _ n) (hw S n s)
      rw [ih (by omega), if_neg (by omega)]
  exact key _ hC
set_option maxHeartbeats 4000000 in
set_option maxRecDepth 100000 in
theorem con_X1_ofShelf {l : Launch} {G : YG} {σ : AH} {a : Nat} {ad : Nat → Nat} {N : Nat → NL} {mc : Nat → Int32} {S : AS} {s : Nat} {v : Int32} (hL : LD σ a ad N mc S) (hI : IV S) (hs : s < 8) : Con l yX1_ofShelf cX1_ofShelf 3 (some FieldType.int) G 7 2 5 [.ref a, .int (nI s), .int v] σ (PRO σ (sOf S s v)) := by
  refine con_of (by decide) (Nat.le_of_ble_eq_true rfl) ?_
  refine x_locs (L' := [(0, .ref a), (1, .int (nI s)), (2, .int v)]) [0, 1, 2] rfl ?_
  have ho := hL.o
  refine x_iload_n dX1_ofShelf_0 2 rfl rfl ?_
  by_cases e0 : v = nI 0
  · subst e0
    refine x_tableIn (off := 39) (tgt := 40) dX1_ofShelf_1 (by decide) (by decide) rfl (by decide) ?_
    refine x_aload_n dX1_ofShelf_40 0 rfl rfl ?_
    refine x_iload_n dX1_ofShelf_41 1 rfl rfl ?_
    refine x_callV dX1_ofShelf_42 (con_X1_holders hL hI hs) (lw_V q1409 q1410 q1411 q86 q1412) (np := 1) (by decide +kernel) rfl (rcv_of vC_1 ho) ⟨Nat.le_of_ble_eq_true rfl, Nat.le_of_ble_eq_true rfl⟩ (Nat.le_of_ble_eq_true rfl) rfl (by omega) (by omega) (rP fun σ1 hR => ?_) nI'
    refine x_goto (tgt := 103) dX1_ofShelf_45 (by decide) ?_
    exact x_iret dX1_ofShelf_103 rfl (pRo rfl hR)
  by_cases e1 : v = nI 1
  · subst e1
    refine x_tableIn (off := 47) (tgt := 48) dX1_ofShelf_1 (by decide) (by decide) rfl (by decide) ?_
    refine x_aload_n dX1_ofShelf_48 0 rfl rfl ?_
    refine x_iload_n dX1_ofShelf_49 1 rfl rfl ?_
    refine x_bipush (v := (-11)) dX1_ofShelf_50 (by decide) ?_
    refine x_callV dX1_ofShelf_52 (con_X1_others hL hI hs oth_x) (lw_V q1102 q1104 qs16 q86 q1105) (np := 2) (by decide +kernel) rfl (rcv_of vC_1 ho) ⟨Nat.le_of_ble_eq_true rfl, Nat.le_of_ble_eq_true rfl⟩ (Nat.le_of_ble_eq_true rfl) rfl (Nat.zero_le _) (Nat.zero_le _) (rS ?_) nI'
    refine x_goto (tgt := 103) dX1_ofShelf_55 (by decide) ?_
    exact x_iret dX1_ofShelf_103 rfl (pRo (by rw [oth_99 hI.c]; rfl) RO.rf)
  by_cases e2 : v = nI 2
  · subst e2
    refine x_tableIn (off := 57) (tgt := 58) dX1_ofShelf_1 (by decide) (by decide) rfl (by decide) ?_
    refine x_aload_n dX1_ofShelf_58 0 rfl rfl ?_
    refine x_get dX1_ofShelf_59 vC_1 in_X1 ho 1 (by decide) q279 rfl ?_
    refine x_iload_n dX1_ofShelf_62 1 rfl rfl ?_
    refine x_callV dX1_ofShelf_63 (con_J2_get hL.al (lYs_at hs)) (lw_V q407 q408 q409 q89 q410) (np := 1) (by decide +kernel) rfl hL.al.rc ⟨Nat.le_of_ble_eq_true rfl, Nat.le_of_ble_eq_true rfl⟩ (Nat.le_of_ble_eq_true rfl) rfl (Nat.zero_le _) (Nat.zero_le _) (rSA ?_) nA'
    refine x_ckcast dX1_ofShelf_66 q183 (hL.ll hs).rc ?_
    refine x_callV dX1_ofShelf_69 (con_J4_size (hL.ll hs)) (lw_V q997 q531 q2258 q91 q532) (np := 0) (by decide +kernel) rfl (hL.ll hs).rc ⟨Nat.le_of_ble_eq_true rfl, Nat.le_of_ble_eq_true rfl⟩ (Nat.le_of_ble_eq_true rfl) rfl (Nat.zero_le _) (Nat.zero_le _) (rS ?_) nI'
    refine x_goto (tgt := 103) dX1_ofShelf_72 (by decide) ?_
    exact x_iret dX1_ofShelf_103 rfl (pRo (by rw [hL.len hs]; rfl) RO.rf)
  by_cases e3 : v = nI 3
  · subst e3
    refine x_tableIn (off := 74) (tgt := 75) dX1_ofShelf_1 (by decide) (by decide) rfl (by decide) ?_
    refine x_aload_n dX1_ofShelf_75 0 rfl rfl ?_
    refine x_iload_n dX1_ofShelf_76 1 rfl rfl ?_
    refine x_callV dX1_ofShelf_77 (con_X1_soleWishes hL hI hs) (lw_V q1413 q1415 qs27 q86 q1416) (np := 1) (by decide +kernel) rfl (rcv_of vC_1 ho) ⟨Nat.le_of_ble_eq_true rfl, Nat.le_of_ble_eq_true rfl⟩ (Nat.le_of_ble_eq_true rfl) rfl (by omega) (by omega) (rP fun σ4 hR => ?_) nI'
    refine x_goto (tgt := 103) dX1_ofShelf_80 (by decide) ?_
    exact x_iret dX1_ofShelf_103 rfl (pRo rfl hR)
  by_cases e4 : v = nI 4
  · subst e4
    refine x_tableIn (off := 82) (tgt := 83) dX1_ofShelf_1 (by decide) (by decide) rfl (by decide) ?_
    refine x_aload_n dX1_ofShelf_83 0 rfl rfl ?_
    refine x_get dX1_ofShelf_84 vC_1 in_X1 ho 5 (by decide) q286 rfl ?_
    refine x_iload_n dX1_ofShelf_87 1 rfl rfl ?_
    obtain ⟨fa5, ha6, hv7⟩ := hL.arr (i := 3) (by decide)
    refine x_iald (N := 8) (j := s) (v := nI (gN S s)) dX1_ofShelf_88 ha6 rfl (hs) (by decide) (hv7 _ (hs)) ?_
    refine x_goto (tgt := 103) dX1_ofShelf_89 (by decide) ?_
    exact x_iret dX1_ofShelf_103 rfl (pRo rfl RO.rf)
  by_cases e5 : v = nI 5
  · subst e5
    refine x_tableIn (off := 91) (tgt := 92) dX1_ofShelf_1 (by decide) (by decide) rfl (by decide) ?_
    refine x_aload_n dX1_ofShelf_92 0 rfl rfl ?_
    refine x_get dX1_ofShelf_93 vC_1 in_X1 ho 6 (by decide) q288 rfl ?_
    refine x_iload_n dX1_ofShelf_96 1 rfl rfl ?_
    obtain ⟨fa8, ha9, hv10⟩ := hL.arr (i := 4) (by decide)
    refine x_iald (N := 8) (j := s) (v := nI (lQ S s)) dX1_ofShelf_97 ha9 rfl (hs) (by decide) (hv10 _ (hs)) ?_
    refine x_goto (tgt := 103) dX1_ofShelf_98 (by decide) ?_
    exact x_iret dX1_ofShelf_103 rfl (pRo rfl RO.rf)
  refine x_tableOut (tgt := 101) dX1_ofShelf_1 (sw_out (n := 6) (by decide) (fun j hj => match j, hj with | 0, _ => e0 | 1, _ => e1 | 2, _ => e2 | 3, _ => e3 | 4, _ => e4 | 5, _ => e5 | _ + 6, hj => absurd hj (by omega))) (by decide) ?_
  refine x_bipush (v := (-12)) dX1_ofShelf_101 (by decide) ?_
  exact x_iret dX1_ofShelf_103 rfl (pRo (by unfold sOf; rw [if_neg e0, if_neg e1, if_neg e2, if_neg e3, if_neg e4, if_neg e5]) RO.rf)
