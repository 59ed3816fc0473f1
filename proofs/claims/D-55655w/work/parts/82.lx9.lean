set_option maxRecDepth 100000
def cntT (S : AS) (i : Nat) : AS := sLN S (fun s => if s < i then Nat.max (lQ S s) (qu S s).length else lQ S s)
theorem cntT_0 {S : AS} : cntT S 0 = S := by
  unfold cntT sLN
  have : (fun s => if s < 0 then Nat.max (lQ S s) (qu S s).length else lQ S s) = lQ S := by funext s; rw [if_neg (Nat.not_lt_zero s)]
  rw [this]
theorem cntT_lt {S : AS} {i s : Nat} (h : s < i) : lQ (cntT S i) s = Nat.max (lQ S s) (qu S s).length := if_pos h
theorem cntT_ge {S : AS} {i s : Nat} (h : ¬ s < i) : lQ (cntT S i) s = lQ S s := if_neg h
set_option maxHeartbeats 4000000 in
set_option maxRecDepth 100000 in
theorem con_X1_notes {l : Launch} {G : YG} {σ : AH} {a : Nat} {ad : Nat → Nat} {N : Nat → NL} {mc : Nat → Int32} {S : AS}  (hL : LD σ a ad N mc S) (hI : IV S) (hQ : IQ S) : Con l yX1_notes cX1_notes 2 none G 4 0 0 [.ref a] σ (PV fun τ => PL a ad N σ (cnts S) τ) := by
  refine con_of (by decide) (Nat.le_of_ble_eq_true rfl) ?_
  refine x_locs (L' := [(0, .ref a)]) [0] rfl ?_
  have ho := hL.o
  refine x_iconst (v := nI 0) dX1_notes_0 (by decide) ?_
  refine x_istore_n (i := 1) (L' := [(1, .int (nI 0)), (0, .ref a)]) dX1_notes_1 rfl (by decide) rfl ?_
  refine x_locs (L' := [(0, .ref a), (1, .int (nI 0))]) [1, 0] rfl ?_
  suffices loop : ∀ (d i : Nat) (τ : AH) (N1 : Nat → NL) (mc1 : Nat → Int32), i + d = 8 → LD τ a ad N1 mc1 (cntT S i) → Fr (FP a ad N) σ τ → (∀ q, FP a ad N1 q → FP a ad N q ∨ σ q = none) → X l yX1_notes cX1_notes 2 none [] G (yroom 4 0 0) (yEnd G (yroom 4 0 0) (PV fun τ => PL a ad N σ (cnts S) τ)) 2 [(0, .ref a), (1, .int (nI i))] [] τ 0 0 from loop 8 0 σ N mc rfl (by rw [cntT_0]; exact hL) Fr.rf (fun _ hq => Or.inl hq)
  intro d
  induction d with
  | zero =>
    intro i τ N1 mc1 hi hL hF hQ
    have hi8 : i = 8 := by omega
    subst hi8
    refine x_iload_n dX1_notes_2 1 rfl rfl ?_
    refine x_bipush (v := nI 8) dX1_notes_3 (by decide) ?_
    refine x_icmp_ge (tgt := 43) dX1_notes_5 (by decide) (fun _ => ?_) (fun h_ => absurd (by decide) h_)
    exact x_vret dX1_notes_43 rfl (⟨rfl, ⟨_, _, hL, hF, hQ⟩⟩)
  | succ d ih =>
    intro i τ N1 mc1 hi hL hF hQ9
    have hi8 : i < 8 := by omega
    have ho := hL.o
    have hq8 := hQ i hi8
    have hQ := hQ9
    have hl8 := hI.len hi8
    have hNl : (N1 i).length = (qu S i).length := hL.len hi8
    refine x_iload_n dX1_notes_2 1 rfl rfl ?_
    refine x_bipush (v := nI 8) dX1_notes_3 (by decide) ?_
    refine x_icmp_ge (tgt := 43) dX1_notes_5 (by decide) (fun h_ => absurd h_ (fun h => absurd (nLe (by omega) (by omega) h) (by omega))) (fun _ => ?_)
    refine x_aload_n dX1_notes_8 0 rfl rfl ?_
    refine x_get dX1_notes_9 vC_1 in_X1 ho 6 (by decide) q288 rfl ?_
    refine x_iload_n dX1_notes_12 1 rfl rfl ?_
    refine x_aload_n dX1_notes_13 0 rfl rfl ?_
    refine x_get dX1_notes_14 vC_1 in_X1 ho 6 (by decide) q288 rfl ?_
    refine x_iload_n dX1_notes_17 1 rfl rfl ?_
    obtain ⟨fa1, ha2, hv3⟩ := hL.arr (i := 4) (by decide)
    refine x_iald (N := 8) (j := i) (v := nI (lQ (cntT S i) i)) dX1_notes_18 ha2 rfl (hi8) (by decide) (hv3 _ (hi8)) ?_
    refine x_top (x' := nI (lQ S i)) (by rw [cntT_ge (Nat.lt_irrefl i)]) ?_
    refine x_aload_n dX1_notes_19 0 rfl rfl ?_
    refine x_get dX1_notes_20 vC_1 in_X1 ho 1 (by decide) q279 rfl ?_
    refine x_iload_n dX1_notes_23 1 rfl rfl ?_
    refine x_callV dX1_notes_24 (con_J2_get hL.al (lYs_at hi8)) (lw_V q407 q408 q409 q89 q410) (np := 1) (by decide +kernel) rfl hL.al.rc ⟨Nat.le_of_ble_eq_true rfl, Nat.le_of_ble_eq_true rfl⟩ (Nat.le_of_ble_eq_true rfl) rfl (Nat.zero_le _) (Nat.zero_le _) (rSA ?_) nA'
    refine x_ckcast dX1_notes_27 q183 (hL.ll hi8).rc ?_
    refine x_callV dX1_notes_30 (con_J4_size (hL.ll hi8)) (lw_V q997 q531 q2258 q91 q532) (np := 0) (by decide +kernel) rfl (hL.ll hi8).rc ⟨Nat.le_of_ble_eq_true rfl, Nat.le_of_ble_eq_true rfl⟩ (Nat.le_of_ble_eq_true rfl) rfl (Nat.zero_le _) (Nat.zero_le _) (rS ?_) nI'
    refine x_top (x' := nI (qu S i).length) (congrArg nI hNl) ?_
    refine x_callS dX1_notes_33 (con_J6_max (x := lQ S i) (y := (qu S i).length) (by omega) (by omega)) (lw_S q998 q227 q93 q228) (np := 2) (by decide +kernel) rfl ⟨Nat.le_of_ble_eq_true rfl, Nat.le_of_ble_eq_true rfl⟩ (Nat.le_of_ble_eq_true rfl) rfl (Nat.zero_le _) (Nat.zero_le _) (rS ?_) nI'
    obtain ⟨fa6, ha7, hv8⟩ := hL.arr (i := 4) (by decide)
    refine x_iast (N := 8) (j := i) (w := nI (Nat.max (lQ S i) (qu S i).length)) dX1_notes_36 ha7 rfl (hi8) (by decide) (fun σ9 h10 h11 => ?_)
    obtain ⟨N12, mc13, hL, hF, hQ⟩ : PL a ad N σ (cntT S (i + 1)) σ9 := PL.tr hF hQ (PL.arr hL (i := 4) (by decide) h10 h11 (fun j hj => by
        show upd _ _ _ j = nI (lQ (cntT S (i + 1)) j)
        unfold upd
        by_cases e : j = i
        · rw [if_pos e, e, cntT_lt (Nat.lt_succ_self i)]
        · rw [if_neg e, hv8 j hj]
          show nI (lQ (cntT S i) j) = _
          by_cases e2 : j < i
          · rw [cntT_lt e2, cntT_lt (by omega)]
          · rw [cntT_ge e2, cntT_ge (by omega)]) rfl ⟨rfl, rfl⟩ rfl (fun i' hi' hn => match i', hi', hn with | 0, _, hn => (by first | rfl | exact absurd rfl hn) | 1, _, hn => (by first | rfl | exact absurd rfl hn) | 2, _, hn => (by first | rfl | exact absurd rfl hn) | 3, _, hn => (by first | rfl | exact absurd rfl hn) | 4, _, hn => (by first | rfl | exact absurd rfl hn)))
    have ho := hL.o
    refine x_iinc (i := 1) (q := 1) (v := nI (i + 1)) (L' := [(1, .int (nI (i + 1))), (0, .ref a)]) dX1_notes_37 rfl (nI_1 _) (by decide) rfl ?_
    refine x_goto (tgt := 2) dX1_notes_40 (by decide) ?_
    refine x_locs (L' := [(0, .ref a), (1, .int (nI (i + 1)))]) [1, 0] rfl ?_
    exact ih (i + 1) _ _ _ (by omega) hL hF hQ
set_option maxHeartbeats 4000000 in
set_option maxRecDepth 100000 in
theorem con_X1_isNeededAhead {l : Launch} {G : YG} {σ : AH} {a : Nat} {ad : Nat → Nat} {N : Nat → NL} {mc : Nat → Int32} {S : AS} {x y : Nat} (hL : LD σ a ad N mc S) (hI : IV S) (hx : x < 8) (hy : y < 8) : Con l yX1_isNeededAhead cX1_isNeededAhead 5 (some FieldType.boolean) G 6 4 6 [.ref a, .int (nI x), .int (nI y)] σ (PRO σ (bI (isNd S x y))) := by
  refine con_of (by decide) (Nat.le_of_ble_eq_true rfl) ?_
  refine x_locs (L' := [(0, .ref a), (1, .int (nI x)), (2, .int (nI y))]) [0, 1, 2] rfl ?_
  have ho := hL.o
  have hlx := hI.len hx
  have hly := hI.len hy
  have hC := hI.c
  have hcx := cn_le (f := heldF S x) (n := nC S)
  have hcy := cn_le (f := heldF S y) (n := nC S)
  refine x_aload_n dX1_isNeededAhead_0 0 rfl rfl ?_
  refine x_get dX1_isNeededAhead_1 vC_1 in_X1 ho 1 (by decide) q279 rfl ?_
  refine x_iload_n dX1_isNeededAhead_4 1 rfl rfl ?_
  refine x_callV dX1_isNeededAhead_5 (con_J2_get hL.al (lYs_at hx)) (lw_V q407 q408 q409 q89 q410) (np := 1) (by decide +kernel) rfl hL.al.rc ⟨Nat.le_of_ble_eq_true rfl, Nat.le_of_ble_eq_true rfl⟩ (Nat.le_of_ble_eq_true rfl) rfl (Nat.zero_le _) (Nat.zero_le _) (rSA ?_) nA'
  refine x_ckcast dX1_isNeededAhead_8 q183 (hL.ll hx).rc ?_
  refine x_callV dX1_isNeededAhead_11 (con_J4_size (hL.ll hx)) (lw_V q997 q531 q2258 q91 q532) (np := 0) (by decide +kernel) rfl (hL.ll hx).rc ⟨Nat.le_of_ble_eq_true rfl, Nat.le_of_ble_eq_true rfl⟩ (Nat.le_of_ble_eq_true rfl) rfl (Nat.zero_le _) (Nat.zero_le _) (rS ?_) nI'
  refine x_top (x' := nI (qu S x).length) (congrArg nI (hL.len hx)) ?_
  refine x_aload_n dX1_isNeededAhead_14 0 rfl rfl ?_
  refine x_get dX1_isNeededAhead_15 vC_1 in_X1 ho 1 (by decide) q279 rfl ?_
  refine x_iload_n dX1_isNeededAhead_18 2 rfl rfl ?_
  refine x_callV dX1_isNeededAhead_19 (con_J2_get hL.al (lYs_at hy)) (lw_V q407 q408 q409 q89 q410) (np := 1) (by decide +kernel) rfl hL.al.rc ⟨Nat.le_of_ble_eq_true rfl, Nat.le_of_ble_eq_true rfl⟩ (Nat.le_of_ble_eq_true rfl) rfl (Nat.zero_le _) (Nat.zero_le _) (rSA ?_) nA'
  refine x_ckcast dX1_isNeededAhead_22 q183 (hL.ll hy).rc ?_
  refine x_callV dX1_isNeededAhead_25 (con_J4_size (hL.ll hy)) (lw_V q997 q531 q2258 q91 q532) (np := 0) (by decide +kernel) rfl (hL.ll hy).rc ⟨Nat.le_of_ble_eq_true rfl, Nat.le_of_ble_eq_true rfl⟩ (Nat.le_of_ble_eq_true rfl) rfl (Nat.zero_le _) (Nat.zero_le _) (rS ?_) nI'
  refine x_top (x' := nI (qu S y).length) (congrArg nI (hL.len hy)) ?_
  refine x_isub dX1_isNeededAhead_28 ?_
  refine x_istore_n (i := 3) (L' := [(3, .int ((nI (qu S x).length) - (nI (qu S y).length))), (0, .ref a), (1, .int (nI x)), (2, .int (nI y))]) dX1_isNeededAhead_29 rfl (by decide) rfl ?_
  refine x_iload_n dX1_isNeededAhead_30 0 rfl rfl ?_
  refine x_if_eq (tgt := 44) dX1_isNeededAhead_31 (by decide) (fun c1 => ?_) (fun c1 => ?_)
  · have c1 : (qu S x).length = (qu S y).length := (sb_eq (by omega) (by omega)).mp c1
    refine x_aload_n dX1_isNeededAhead_44 1 rfl rfl ?_
    refine x_iload_n dX1_isNeededAhead_45 2 rfl rfl ?_
    refine x_callV dX1_isNeededAhead_46 (con_X1_holders hL hI hx) (lw_V q1409 q1410 q1411 q86 q1412) (np := 1) (by decide +kernel) rfl (rcv_of vC_1 ho) ⟨Nat.le_of_ble_eq_true rfl, Nat.le_of_ble_eq_true rfl⟩ (Nat.le_of_ble_eq_true rfl) rfl (by omega) (by omega) (rP fun σ3 hR => ?_) nI'
    have hL := hL.ro (hR)
    have ho := hL.o
    refine x_aload_n dX1_isNeededAhead_49 1 rfl rfl ?_
    refine x_iload_n dX1_isNeededAhead_50 3 rfl rfl ?_
    refine x_callV dX1_isNeededAhead_51 (con_X1_holders hL hI hy) (lw_V q1409 q1410 q1411 q86 q1412) (np := 1) (by decide +kernel) rfl (rcv_of vC_1 ho) ⟨Nat.le_of_ble_eq_true rfl, Nat.le_of_ble_eq_true rfl⟩ (Nat.le_of_ble_eq_true rfl) rfl (by omega) (by omega) (rP fun σ4 hR2 => ?_) nI'
    have hR := hR.tr hR2
    refine x_isub dX1_isNeededAhead_54 ?_
    refine x_istore (i := 4) (L' := [(4, .int ((nI (cn (heldF S x) (nC S))) - (nI (cn (heldF S y) (nC S))))), (3, .int ((nI (qu S x).length) - (nI (qu S y).length))), (0, .ref a), (1, .int (nI x)), (2, .int (nI y))]) dX1_isNeededAhead_55 (by decide) rfl ?_
    refine x_iload dX1_isNeededAhead_57 0 rfl ?_
    refine x_if_eq (tgt := 75) dX1_isNeededAhead_59 (by decide) (fun c2 => ?_) (fun c2 => ?_)
    · have c2 : cn (heldF S x) (nC S) = cn (heldF S y) (nC S) := (sb_eq (by omega) (by omega)).mp c2
      refine x_iload_n dX1_isNeededAhead_75 3 rfl rfl ?_
      refine x_iload_n dX1_isNeededAhead_76 4 rfl rfl ?_
      refine x_icmp_ge (tgt := 84) dX1_isNeededAhead_77 (by decide) (fun c3 => ?_) (fun c3 => ?_)
      · have c3 := nLe (by omega) (by omega) c3
        refine x_iconst (v := nI 0) dX1_isNeededAhead_84 (by decide) ?_
        exact x_zret dX1_isNeededAhead_85 rfl (rfl) (pRo (by rw [isNd_eq c1 c2, decide_eq_false (by omega)]; rfl) hR)
      · have c3 := nNle (by omega) (by omega) c3
        refine x_iconst (v := nI 1) dX1_isNeededAhead_80 (by decide) ?_
        refine x_goto (tgt := 85) dX1_isNeededAhead_81 (by decide) ?_
        exact x_zret dX1_isNeededAhead_85 rfl (rfl) (pRo (by rw [isNd_eq c1 c2, decide_eq_true c3]; rfl) hR)
    · have c2 : cn (heldF S x) (nC S) ≠ cn (heldF S y) (nC S) := fun e => c2 ((sb_eq (by omega) (by omega)).mpr e)
      refine x_iload dX1_isNeededAhead_62 0 rfl ?_
      refine x_if_le (tgt := 71) dX1_isNeededAhead_64 (by decide) (fun c3 => ?_) (fun c3 => ?_)
      · have c3 := (sb_le (by omega) (by omega)).mp c3
        refine x_iconst (v := nI 0) dX1_isNeededAhead_71 (by decide) ?_
        refine x_goto (tgt := 85) dX1_isNeededAhead_72 (by decide) ?_
        exact x_zret dX1_isNeededAhead_85 rfl (rfl) (pRo (by rw [isNd_lt c1 (by omega)]; rfl) hR)
      · have c3 : cn (heldF S y) (nC S) < cn (heldF S x) (nC S) := Nat.lt_of_not_le fun e => c3 ((sb_le (by omega) (by omega)).mpr e)
        refine x_iconst (v := nI 1) dX1_isNeededAhead_67 (by decide) ?_
        refine x_goto (tgt := 85) dX1_isNeededAhead_68 (by decide) ?_
        exact x_zret dX1_isNeededAhead_85 rfl (rfl) (pRo (by rw [isNd_gt c1 c3]; rfl) hR)
  · have c1 : (qu S x).length ≠ (qu S y).length := fun e => c1 ((sb_eq (by omega) (by omega)).mpr e)
    refine x_iload_n dX1_isNeededAhead_34 0 rfl rfl ?_
    refine x_if_le (tgt := 42) dX1_isNeededAhead_35 (by decide) (fun c2 => ?_) (fun c2 => ?_)
    · have c2 := (sb_le (by omega) (by omega)).mp c2
      refine x_iconst (v := nI 0) dX1_isNeededAhead_42 (by decide) ?_
      exact x_zret dX1_isNeededAhead_43 rfl (rfl) (pRo (by rw [isNd_ne c1, decide_eq_false (by omega)]; rfl) RO.rf)
    · have c2 : (qu S y).length < (qu S x).length := Nat.lt_of_not_le fun e => c2 ((sb_le (by omega) (by omega)).mpr e)
      refine x_iconst (v := nI 1) dX1_isNeededAhead_38 (by decide) ?_
      refine x_goto (tgt := 43) dX1_isNeededAhead_39 (by decide) ?_
      exact x_zret dX1_isNeededAhead_43 rfl (rfl) (pRo (by rw [isNd_ne c1, decide_eq_true c2]; rfl) RO.rf)
theorem isNd_self {S : AS} {a : Nat} : isNd S a a = false := by rw [isNd_eq rfl rfl]; exact decide_eq_false (Nat.lt_irrefl a)
set_option maxHeartbeats 4000000 in
set_option maxRecDepth 100000 in
theorem con_X1_needed {l : Launch} {G : YG} {σ : AH} {a : Nat} {ad : Nat → Nat} {N : Nat → NL} {mc : Nat → Int32} {S : AS} {p : Int32} (hL : LD σ a ad N mc S) (hI : IV S) : Con l yX1_needed cX1_needed 5 (some FieldType.int) G 7 256 384 [.ref a, .int p] σ (PRO σ (qNeeded S p)) := by
  refine con_of (by decide) (Nat.le_of_ble_eq_true rfl) ?_
  refine x_locs (L' := [(0, .ref a), (1, .int p)]) [0, 1] rfl ?_
  have ho := hL.o
  have hL0 := hL
  obtain ⟨A, hA⟩ : ∃ A : Nat → Nat, A = fun k => cn (fun o => isNd S o k) 8 := ⟨_, rfl⟩
  have hq : qNeeded S p = pickF (fun _ => true) A p 8 0 := by rw [hA]; rfl
  rw [hq]
  refine x_iconst (v := nI 0) dX1_needed_0 (by decide) ?_
  refine x_istore_n (i := 2) (L' := [(2, .int (nI 0)), (0, .ref a), (1, .int p)]) dX1_needed_1 rfl (by decide) rfl ?_
  refine x_locs (L' := [(0, .ref a), (1, .int p), (2, .int (nI 0))]) [1, 2, 0] rfl ?_
  suffices loop : ∀ (d i : Nat) (τ : AH) (k n : Nat), i + d = 8 → RO σ τ → pickF (fun _ => true) A p 8 0 = pickF (fun _ => true) A p d i → d * 32 ≤ k → d * 48 ≤ n → X l yX1_needed cX1_needed 5 (some FieldType.int) [] G (yroom 7 256 384) (yEnd G (yroom 7 256 384) (PRO σ (pickF (fun _ => true) A p 8 0))) 2 [(0, .ref a), (1, .int p), (2, .int (nI i))] [] τ k n from loop 8 0 σ _ _ rfl RO.rf rfl (by omega) (by omega)
  intro d
  induction d with
  | zero =>
    intro i τ k n hi hR hco hk0 hn0
    have hi8 : i = 8 := by omega
    subst hi8
    refine x_iload_n dX1_needed_2 2 rfl rfl ?_
    refine x_bipush (v := nI 8) dX1_needed_3 (by decide) ?_
    refine x_icmp_ge (tgt := 63) dX1_needed_5 (by decide) (fun _ => ?_) (fun h_ => absurd (by decide) h_)
    refine x_bipush (v := (-11)) dX1_needed_63 (by decide) ?_
    exact x_iret dX1_needed_65 rfl (pRo (by rw [hco]; rfl) hR)
  | succ d ih =>
    intro i τ k n hi hR hco hk0 hn0
    have hi8 : i < 8 := by omega
    have hAi : A i = cn (fun o => isNd S o i) 8 := by rw [hA]
    refine x_iload_n dX1_needed_2 2 rfl rfl ?_
    refine x_bipush (v := nI 8) dX1_needed_3 (by decide) ?_
    refine x_icmp_ge (tgt := 63) dX1_needed_5 (by decide) (fun h_ => absurd h_ (fun h => absurd (nLe (by omega) (by omega) h) (by omega))) (fun _ => ?_)
    refine x_iconst (v := nI 0) dX1_needed_8 (by decide) ?_
    refine x_istore_n (i := 3) (L' := [(3, .int (nI 0)), (0, .ref a), (1, .int p), (2, .int (nI i))]) dX1_needed_9 rfl (by decide) rfl ?_
    refine x_iconst (v := nI 0) dX1_needed_10 (by decide) ?_
    refine x_istore (i := 4) (L' := [(4, .int (nI 0)), (3, .int (nI 0)), (0, .ref a), (1, .int p), (2, .int (nI i))]) dX1_needed_11 (by decide) rfl ?_
    refine x_locs (L' := [(0, .ref a), (1, .int p), (2, .int (nI i)), (3, .int (nI 0)), (4, .int (nI 0))]) [2, 3, 4, 1, 0] rfl ?_
    suffices inner : ∀ (e j : Nat) (τ : AH) (k n : Nat), j + e = 8 → RO σ τ → e * 4 + d * 32 ≤ k → e * 6 + d * 48 ≤ n → X l yX1_needed cX1_needed 5 (some FieldType.int) [] G (yroom 7 256 384) (yEnd G (yroom 7 256 384) (PRO σ (pickF (fun _ => true) A p 8 0))) 13 [(0, .ref a), (1, .int p), (2, .int (nI i)), (3, .int (nI (cn (fun o => isNd S o i) j))), (4, .int (nI j))] [] τ k n from inner 8 0 τ _ _ rfl hR (by omega) (by omega)
    intro e
    induction e with
    | zero =>
      intro j τ k n hj hR hk0 hn0
      have hj8 : j = 8 := by omega
      subst hj8
      have hcnb := cn_le (f := fun o => isNd S o i) (n := 8)
      refine x_iload dX1_needed_13 4 rfl ?_
      refine x_bipush (v := nI 8) dX1_needed_15 (by decide) ?_
      refine x_icmp_ge (tgt := 50) dX1_needed_17 (by decide) (fun _ => ?_) (fun h_ => absurd (by decide) h_)
      refine x_iload_n dX1_needed_50 3 rfl rfl ?_
      refine x_iload_n dX1_needed_51 1 rfl rfl ?_
      refine x_icmp_ne (tgt := 57) dX1_needed_52 (by decide) (fun c5 => ?_) (fun c5 => ?_)
      · refine x_iinc (i := 2) (q := 2) (v := nI (i + 1)) (L' := [(2, .int (nI (i + 1))), (0, .ref a), (1, .int p), (3, .int (nI (cn (fun o => isNd S o i) 8))), (4, .int (nI 8))]) dX1_needed_57 rfl (nI_1 _) (by decide) rfl ?_
        refine x_goto (tgt := 2) dX1_needed_60 (by decide) ?_
        refine x_locs (L' := [(0, .ref a), (1, .int p), (2, .int (nI (i + 1)))]) [1, 2, 0] rfl ?_
        exact ih (i + 1) τ _ _ (by omega) hR (hco.trans (pickF_n (Or.inr (by rw [hAi]; exact c5)))) (by omega) (by omega)
      · refine x_iload_n dX1_needed_55 2 rfl rfl ?_
        exact x_iret dX1_needed_56 rfl (pRo (by rw [hco, pickF_y rfl (by rw [hAi]; exact c5)]) hR)
    | succ e ihe =>
      intro j τ k n hj hR hk0 hn0
      have hj8 : j < 8 := by omega
      have hL := hL0.ro hR
      have ho := hL.o
      refine x_iload dX1_needed_13 4 rfl ?_
      refine x_bipush (v := nI 8) dX1_needed_15 (by decide) ?_
      refine x_icmp_ge (tgt := 50) dX1_needed_17 (by decide) (fun h_ => absurd h_ (fun h => absurd (nLe (by omega) (by omega) h) (by omega))) (fun _ => ?_)
      refine x_iload_n dX1_needed_20 3 rfl rfl ?_
      refine x_iload dX1_needed_21 4 rfl ?_
      refine x_iload_n dX1_needed_23 2 rfl rfl ?_
      refine x_icmp_eq (tgt := 41) dX1_needed_24 (by decide) (fun c1 => ?_) (fun c1 => ?_)
      · have c1 := nEq (by omega) (by omega) c1
        have hs := cn_f0 (f := fun o => isNd S o i) (i := j) (by rw [c1]; exact isNd_self)
        refine x_iconst (v := nI 0) dX1_needed_41 (by decide) ?_
        refine x_iadd dX1_needed_42 ?_
        refine x_top (x' := nI (cn (fun o => isNd S o i) j + 0)) (nI_add _ _) ?_
        refine x_istore_n (i := 3) (L' := [(3, .int (nI (cn (fun o => isNd S o i) j + 0))), (0, .ref a), (1, .int p), (2, .int (nI i)), (4, .int (nI j))]) dX1_needed_43 rfl (by decide) rfl ?_
        refine x_iinc (i := 4) (q := 4) (v := nI (j + 1)) (L' := [(4, .int (nI (j + 1))), (3, .int (nI (cn (fun o => isNd S o i) j + 0))), (0, .ref a), (1, .int p), (2, .int (nI i))]) dX1_needed_44 rfl (nI_1 _) (by decide) rfl ?_
        refine x_goto (tgt := 13) dX1_needed_47 (by decide) ?_
        refine x_locs (L' := [(0, .ref a), (1, .int p), (2, .int (nI i)), (3, .int (nI (cn (fun o => isNd S o i) j + 0))), (4, .int (nI (j + 1)))]) [2, 3, 4, 1, 0] rfl ?_
        rw [← hs]
        exact ihe (j + 1) τ _ _ (by omega) hR (by omega) (by omega)
      · refine x_aload_n dX1_needed_27 0 rfl rfl ?_
        refine x_iload dX1_needed_28 4 rfl ?_
        refine x_iload_n dX1_needed_30 2 rfl rfl ?_
        refine x_callV dX1_needed_31 (con_X1_isNeededAhead hL hI hj8 hi8) (lw_V q1488 q1490 qs29 q86 q1491) (np := 2) (by decide +kernel) rfl (rcv_of vC_1 ho) ⟨Nat.le_of_ble_eq_true rfl, Nat.le_of_ble_eq_true rfl⟩ (Nat.le_of_ble_eq_true rfl) rfl (by omega) (by omega) (rP fun σ1 hR3 => ?_) nI'
        refine x_if_eq (tgt := 41) dX1_needed_34 (by decide) (fun c2 => ?_) (fun c2 => ?_)
        · have c2 := bI_0 c2
          have hs := cn_f0 (f := fun o => isNd S o i) (i := j) c2
          refine x_iconst (v := nI 0) dX1_needed_41 (by decide) ?_
          refine x_iadd dX1_needed_42 ?_
          refine x_top (x' := nI (cn (fun o => isNd S o i) j + 0)) (nI_add _ _) ?_
          refine x_istore_n (i := 3) (L' := [(3, .int (nI (cn (fun o => isNd S o i) j + 0))), (0, .ref a), (1, .int p), (2, .int (nI i)), (4, .int (nI j))]) dX1_needed_43 rfl (by decide) rfl ?_
          refine x_iinc (i := 4) (q := 4) (v := nI (j + 1)) (L' := [(4, .int (nI (j + 1))), (3, .int (nI (cn (fun o => isNd S o i) j + 0))), (0, .ref a), (1, .int p), (2, .int (nI i))]) dX1_needed_44 rfl (nI_1 _) (by decide) rfl ?_
          refine x_goto (tgt := 13) dX1_needed_47 (by decide) ?_
          refine x_locs (L' := [(0, .ref a), (1, .int p), (2, .int (nI i)), (3, .int (nI (cn (fun o => isNd S o i) j + 0))), (4, .int (nI (j + 1)))]) [2, 3, 4, 1, 0] rfl ?_
          rw [← hs]
          exact ihe (j + 1) _ _ _ (by omega) (hR.tr hR3) (by omega) (by omega)
        · have c2 := bI_1 c2
          have hs := cn_t (f := fun o => isNd S o i) (i := j) c2
          refine x_iconst (v := nI 1) dX1_needed_37 (by decide) ?_
          refine x_goto (tgt := 42) dX1_needed_38 (by decide) ?_
          refine x_iadd dX1_needed_42 ?_
          refine x_top (x' := nI (cn (fun o => isNd S o i) j + 1)) (nI_add _ _) ?_
          refine x_istore_n (i := 3) (L' := [(3, .int (nI (cn (fun o => isNd S o i) j + 1))), (0, .ref a), (1, .int p), (2, .int (nI i)), (4, .int (nI j))]) dX1_needed_43 rfl (by decide) rfl ?_
          refine x_iinc (i := 4) (q := 4) (v := nI (j + 1)) (L' := [(4, .int (nI (j + 1))), (3, .int (nI (cn (fun o => isNd S o i) j + 1))), (0, .ref a), (1, .int p), (2, .int (nI i))]) dX1_needed_44 rfl (nI_1 _) (by decide) rfl ?_
          refine x_goto (tgt := 13) dX1_needed_47 (by decide) ?_
          refine x_locs (L' := [(0, .ref a), (1, .int p), (2, .int (nI i)), (3, .int (nI (cn (fun o => isNd S o i) j + 1))), (4, .int (nI (j + 1)))]) [2, 3, 4, 1, 0] rfl ?_
          rw [← hs]
          exact ihe (j + 1) _ _ _ (by omega) (hR.tr hR3) (by omega) (by omega)
set_option maxHeartbeats 4000000 in
set_option maxRecDepth 100000 in
theorem con_X1_isMaidAhead {l : Launch} {G : YG} {σ : AH} {a : Nat} {ad : Nat → Nat} {N : Nat → NL} {mc : Nat → Int32} {S : AS} {x y : Nat} (hL : LD σ a ad N mc S) (hI : IV S) (hx : x < 24) (hy : y < 24) : Con l yX1_isMaidAhead cX1_isMaidAhead 4 (some FieldType.boolean) G 7 16 80 [.ref a, .int (nI x), .int (nI y)] σ (PRO σ (bI (isAh S x y))) := by
  refine con_of (by decide) (Nat.le_of_ble_eq_true rfl) ?_
  refine x_locs (L' := [(0, .ref a), (1, .int (nI x)), (2, .int (nI y))]) [0, 1, 2] rfl ?_
  have ho := hL.o
  have hL0 := hL
  have hcx := cn_le (f := lockF S x) (n := 8)
  have hcy := cn_le (f := lockF S y) (n := 8)
  refine x_aload_n dX1_isMaidAhead_0 0 rfl rfl ?_
  refine x_iload_n dX1_isMaidAhead_1 1 rfl rfl ?_
  refine x_callV dX1_isMaidAhead_2 (con_X1_held hL hI hx) (lw_V q1384 q1385 q1386 q86 q1387) (np := 1) (by decide +kernel) rfl (rcv_of vC_1 ho) ⟨Nat.le_of_ble_eq_true rfl, Nat.le_of_ble_eq_true rfl⟩ (Nat.le_of_ble_eq_true rfl) rfl (Nat.zero_le _) (Nat.zero_le _) (rS ?_) nI'
  refine x_aload_n dX1_isMaidAhead_5 0 rfl rfl ?_
  refine x_iload_n dX1_isMaidAhead_6 2 rfl rfl ?_
  refine x_callV dX1_isMaidAhead_7 (con_X1_held hL hI hy) (lw_V q1384 q1385 q1386 q86 q1387) (np := 1) (by decide +kernel) rfl (rcv_of vC_1 ho) ⟨Nat.le_of_ble_eq_true rfl, Nat.le_of_ble_eq_true rfl⟩ (Nat.le_of_ble_eq_true rfl) rfl (Nat.zero_le _) (Nat.zero_le _) (rS ?_) nI'
  refine x_icmp_eq (tgt := 32) dX1_isMaidAhead_10 (by decide) (fun c1 => ?_) (fun c1 => ?_)
  · have c1 := nEq (by omega) (by omega) c1
    refine x_aload_n dX1_isMaidAhead_32 0 rfl rfl ?_
    refine x_iload_n dX1_isMaidAhead_33 1 rfl rfl ?_
    refine x_callV dX1_isMaidAhead_34 (con_X1_waitsFor hL hI hx) (lw_V q1068 q1069 q1070 q86 q1071) (np := 1) (by decide +kernel) rfl (rcv_of vC_1 ho) ⟨Nat.le_of_ble_eq_true rfl, Nat.le_of_ble_eq_true rfl⟩ (Nat.le_of_ble_eq_true rfl) rfl (by omega) (by omega) (rP fun σ3 hR => ?_) nI'
    have hL := hL.ro (hR)
    have ho := hL.o
    have tail : ∀ (iv : Nat) (τ : AH) (k n : Nat), iv = (if (aAt S x).isNone then 1 else 0) → RO σ τ → 8 ≤ k → 40 ≤ n → X l yX1_isMaidAhead cX1_isMaidAhead 4 (some FieldType.boolean) [] G (yroom 7 16 80) (yEnd G (yroom 7 16 80) (PRO σ (bI (isAh S x y)))) 47 [(0, .ref a), (1, .int (nI x)), (2, .int (nI y))] [.int (nI iv)] τ k n := by
      intro iv τ k n hiv hR hk0 hn0
      have hL := hL0.ro hR
      have ho := hL.o
      refine x_istore_n (i := 3) (L' := [(3, .int (nI iv)), (0, .ref a), (1, .int (nI x)), (2, .int (nI y))]) dX1_isMaidAhead_47 rfl (by decide) rfl ?_
      refine x_iload_n dX1_isMaidAhead_48 0 rfl rfl ?_
      refine x_aload_n dX1_isMaidAhead_49 1 rfl rfl ?_
      refine x_iload_n dX1_isMaidAhead_50 3 rfl rfl ?_
      refine x_callV dX1_isMaidAhead_51 (con_X1_waitsFor hL hI hy) (lw_V q1068 q1069 q1070 q86 q1071) (np := 1) (by decide +kernel) rfl (rcv_of vC_1 ho) ⟨Nat.le_of_ble_eq_true rfl, Nat.le_of_ble_eq_true rfl⟩ (Nat.le_of_ble_eq_true rfl) rfl (by omega) (by omega) (rP fun σ4 hR2 => ?_) nI'
      have hR := hR.tr hR2
      refine x_bipush (v := (-15)) dX1_isMaidAhead_54 (by decide) ?_
      refine x_icmp_ne (tgt := 63) dX1_isMaidAhead_56 (by decide) (fun c2 => ?_) (fun c2 => ?_)
      · have hjv : (aAt S y).isNone = false := by
          cases h : aAt S y with
          | none => exact absurd (atV_none h) c2
          | some z => rfl
        refine x_iconst (v := nI 0) dX1_isMaidAhead_63 (by decide) ?_
        refine x_icmp_eq (tgt := 71) dX1_isMaidAhead_64 (by decide) (fun c3 => ?_) (fun c3 => ?_)
        · have hxi : (aAt S x).isNone = false := by
            have c3 := nEq (by rw [hiv]; split <;> omega) (by omega) c3
            rw [hiv] at c3
            cases h : (aAt S x).isNone with
            | true => rw [h] at c3; cases c3
            | false => rfl
          refine x_iload_n dX1_isMaidAhead_71 2 rfl rfl ?_
          refine x_iload_n dX1_isMaidAhead_72 3 rfl rfl ?_
          refine x_icmp_le (tgt := 80) dX1_isMaidAhead_73 (by decide) (fun c4 => ?_) (fun c4 => ?_)
          · have c4 := nLe (by omega) (by omega) c4
            refine x_iconst (v := nI 0) dX1_isMaidAhead_80 (by decide) ?_
            exact x_zret dX1_isMaidAhead_81 rfl (rfl) (pRo (by rw [isAh_eq c1, hxi, hjv, if_pos rfl, decide_eq_false (by omega)]; rfl) hR)
          · have c4 := nNle (by omega) (by omega) c4
            refine x_iconst (v := nI 1) dX1_isMaidAhead_76 (by decide) ?_
            refine x_goto (tgt := 81) dX1_isMaidAhead_77 (by decide) ?_
            exact x_zret dX1_isMaidAhead_81 rfl (rfl) (pRo (by rw [isAh_eq c1, hxi, hjv, if_pos rfl, decide_eq_true c4]; rfl) hR)
        · have hxi : (aAt S x).isNone = true := by
            cases h : (aAt S x).isNone with
            | true => rfl
            | false => rw [h] at hiv; exact absurd (by rw [hiv]; rfl) c3
          refine x_iload_n dX1_isMaidAhead_67 0 rfl rfl ?_
          refine x_goto (tgt := 81) dX1_isMaidAhead_68 (by decide) ?_
          exact x_zret dX1_isMaidAhead_81 rfl (by rw [hiv, hxi]; rfl) (pRo (by rw [isAh_eq c1, hxi, hjv, if_neg (by decide)]; rw [hiv, hxi]; rfl) hR)
      · have hjv : (aAt S y).isNone = true := by
          cases h : aAt S y with
          | none => rfl
          | some z => rw [atV_some h] at c2; exact absurd c2 ((by decide +kernel : ∀ s, s < 8 → ¬ nI s = (-15)) z (aAt_some h).1)
        refine x_iconst (v := nI 1) dX1_isMaidAhead_59 (by decide) ?_
        refine x_goto (tgt := 64) dX1_isMaidAhead_60 (by decide) ?_
        refine x_icmp_eq (tgt := 71) dX1_isMaidAhead_64 (by decide) (fun c3 => ?_) (fun c3 => ?_)
        · have hxi : (aAt S x).isNone = true := by
            have c3 := nEq (by rw [hiv]; split <;> omega) (by omega) c3
            rw [hiv] at c3
            cases h : (aAt S x).isNone with
            | true => rfl
            | false => rw [h] at c3; cases c3
          refine x_iload_n dX1_isMaidAhead_71 2 rfl rfl ?_
          refine x_iload_n dX1_isMaidAhead_72 3 rfl rfl ?_
          refine x_icmp_le (tgt := 80) dX1_isMaidAhead_73 (by decide) (fun c4 => ?_) (fun c4 => ?_)
          · have c4 := nLe (by omega) (by omega) c4
            refine x_iconst (v := nI 0) dX1_isMaidAhead_80 (by decide) ?_
            exact x_zret dX1_isMaidAhead_81 rfl (rfl) (pRo (by rw [isAh_eq c1, hxi, hjv, if_pos rfl, decide_eq_false (by omega)]; rfl) hR)
          · have c4 := nNle (by omega) (by omega) c4
            refine x_iconst (v := nI 1) dX1_isMaidAhead_76 (by decide) ?_
            refine x_goto (tgt := 81) dX1_isMaidAhead_77 (by decide) ?_
            exact x_zret dX1_isMaidAhead_81 rfl (rfl) (pRo (by rw [isAh_eq c1, hxi, hjv, if_pos rfl, decide_eq_true c4]; rfl) hR)
        · have hxi : (aAt S x).isNone = false := by
            cases h : (aAt S x).isNone with
            | true => rw [h] at hiv; exact absurd (by rw [hiv]; rfl) c3
            | false => rfl
          refine x_iload_n dX1_isMaidAhead_67 0 rfl rfl ?_
          refine x_goto (tgt := 81) dX1_isMaidAhead_68 (by decide) ?_
          exact x_zret dX1_isMaidAhead_81 rfl (by rw [hiv, hxi]; rfl) (pRo (by rw [isAh_eq c1, hxi, hjv, if_neg (by decide)]; rw [hiv, hxi]; rfl) hR)
    refine x_bipush (v := (-15)) dX1_isMaidAhead_37 (by decide) ?_
    refine x_icmp_ne (tgt := 46) dX1_isMaidAhead_39 (by decide) (fun c5 => ?_) (fun c5 => ?_)
    · have hxn : (aAt S x).isNone = false := by
        cases h : aAt S x with
        | none => exact absurd (atV_none h) c5
        | some z => rfl
      refine x_iconst (v := nI 0) dX1_isMaidAhead_46 (by decide) ?_
      refine x_locs (L' := [(0, .ref a), (1, .int (nI x)), (2, .int (nI y))]) [0, 1, 2] rfl ?_
      exact tail 0 _ _ _ (by rw [hxn]; rfl) hR (by omega) (by omega)
    · have hxn : (aAt S x).isNone = true := by
        cases h : aAt S x with
        | none => rfl
        | some z => rw [atV_some h] at c5; exact absurd c5 ((by decide +kernel : ∀ s, s < 8 → ¬ nI s = (-15)) z (aAt_some h).1)
      refine x_iconst (v := nI 1) dX1_isMaidAhead_42 (by decide) ?_
      refine x_goto (tgt := 47) dX1_isMaidAhead_43 (by decide) ?_
      refine x_locs (L' := [(0, .ref a), (1, .int (nI x)), (2, .int (nI y))]) [0, 1, 2] rfl ?_
      exact tail 1 _ _ _ (by rw [hxn]; rfl) hR (by omega) (by omega)
  · have c1 := nNe (by omega) (by omega) c1
    refine x_aload_n dX1_isMaidAhead_13 0 rfl rfl ?_
    refine x_iload_n dX1_isMaidAhead_14 1 rfl rfl ?_
    refine x_callV dX1_isMaidAhead_15 (con_X1_held hL hI hx) (lw_V q1384 q1385 q1386 q86 q1387) (np := 1) (by decide +kernel) rfl (rcv_of vC_1 ho) ⟨Nat.le_of_ble_eq_true rfl, Nat.le_of_ble_eq_true rfl⟩ (Nat.le_of_ble_eq_true rfl) rfl (Nat.zero_le _) (Nat.zero_le _) (rS ?_) nI'
    refine x_aload_n dX1_isMaidAhead_18 0 rfl rfl ?_
    refine x_iload_n dX1_isMaidAhead_19 2 rfl rfl ?_
    refine x_callV dX1_isMaidAhead_20 (con_X1_held hL hI hy) (lw_V q1384 q1385 q1386 q86 q1387) (np := 1) (by decide +kernel) rfl (rcv_of vC_1 ho) ⟨Nat.le_of_ble_eq_true rfl, Nat.le_of_ble_eq_true rfl⟩ (Nat.le_of_ble_eq_true rfl) rfl (Nat.zero_le _) (Nat.zero_le _) (rS ?_) nI'
    refine x_icmp_le (tgt := 30) dX1_isMaidAhead_23 (by decide) (fun c2 => ?_) (fun c2 => ?_)
    · have c2 := nLe (by omega) (by omega) c2
      refine x_iconst (v := nI 0) dX1_isMaidAhead_30 (by decide) ?_
      exact x_zret dX1_isMaidAhead_31 rfl (rfl) (pRo (by rw [isAh_ne c1, decide_eq_false (by omega)]; rfl) RO.rf)
    · have c2 := nNle (by omega) (by omega) c2
      refine x_iconst (v := nI 1) dX1_isMaidAhead_26 (by decide) ?_
      refine x_goto (tgt := 31) dX1_isMaidAhead_27 (by decide) ?_
      exact x_zret dX1_isMaidAhead_31 rfl (rfl) (pRo (by rw [isAh_ne c1, decide_eq_true c2]; rfl) RO.rf)
theorem isAh_self {S : AS} {a : Nat} : isAh S a a = false := by rw [isAh_eq rfl, if_pos rfl]; exact decide_eq_false (Nat.lt_irrefl a)
theorem rank_24 {S : AS} (hI : IV S) {k : Nat} : cn (fun o => tH S o && isAh S o k) 24 = cn (fun o => tH S o && isAh S o k) (nC S) := cn_hi (fun i hi => by rw [not_th hI hi]; rfl) 24 hI.c
set_option maxHeartbeats 4000000 in
set_option maxRecDepth 100000 in
theorem con_X1_ranked {l : Launch} {G : YG} {σ : AH} {a : Nat} {ad : Nat → Nat} {N : Nat → NL} {mc : Nat → Int32} {S : AS} {p : Int32} (hL : LD σ a ad N mc S) (hI : IV S) : Con l yX1_ranked cX1_ranked 7 (some FieldType.int) G 8 1042 5210 [.ref a, .int p] σ (PRO σ (qRanked S p)) := by
  refine con_of (by decide) (Nat.le_of_ble_eq_true rfl) ?_
  refine x_locs (L' := [(0, .ref a), (1, .int p)]) [0, 1] rfl ?_
  have ho := hL.o
  have hL0 := hL
  obtain ⟨A, hA⟩ : ∃ A : Nat → Nat, A = fun k => cn (fun o => tH S o && isAh S o k) (nC S) := ⟨_, rfl⟩
  have hq : qRanked S p = pickF (tH S) A p 24 0 := by rw [hA]; exact (pick_24 hI.c (fun i hi => not_th hI hi)).symm
  rw [hq]
  have h8 := c2T_sm hI (c := 130)
  have h85 := c2T_sm hI (c := 643)
  have h16 := c2T_sm hI (c := 16)
  have h80 := c2T_sm hI (c := 80)
  refine x_aload_n dX1_ranked_0 0 rfl rfl ?_
  refine x_callV dX1_ranked_1 (con_X1_maids hL) (lw_V q1130 q1131 q1132 q86 q1133) (np := 0) (by decide +kernel) rfl (rcv_of vC_1 ho) ⟨Nat.le_of_ble_eq_true rfl, Nat.le_of_ble_eq_true rfl⟩ (Nat.le_of_ble_eq_true rfl) rfl (by omega) (by omega) (rA fun it2 σ3 hm1 => ?_) nA'
  obtain ⟨it2n, it2c, it2u⟩ := hm1
  have hL := hL.ro (ro_new it2n it2u)
  have ho := hL.o
  refine x_callF dX1_ranked_4 (con_X5_iterator it2c) (lw_F q1148 q1152 q1154 q120 q1156) q1150 q1149 q1155 q1153 q1151 (np := 0) (by decide +kernel) rfl vC_5 it2c ⟨Nat.le_of_ble_eq_true rfl, Nat.le_of_ble_eq_true rfl⟩ (Nat.le_of_ble_eq_true rfl) rfl (by omega) (by omega) (rA fun b σ5 hm4 => ?_) nA'
  obtain ⟨bn0, bc, bu⟩ := hm4
  have hL := hL.ro (ro_new bn0 bu)
  have ho := hL.o
  have bn : σ b = none := ((RO.rf).tr (ro_new it2n it2u)).nn bn0
  have hRb := ((RO.rf).tr (ro_new it2n it2u)).tr (ro_new bn0 bu)
  refine x_astore_n (i := 2) (L' := [(2, .ref b), (0, .ref a), (1, .int p)]) dX1_ranked_9 rfl (by decide) rfl ?_
  refine x_locs (L' := [(0, .ref a), (1, .int p), (2, .ref b)]) [1, 2, 0] rfl ?_
  suffices loop : ∀ (d j : Nat) (τ : AH) (z : Int32) (k n : Nat), j + d = 24 → RO σ τ → τ b = some (.inr (6, [.int z])) → BS z (fun i => decide (j ≤ i) && tH S i) → su (c2T S 130) j d ≤ k → su (c2T S 643) j d ≤ n → pickF (tH S) A p 24 0 = pickF (tH S) A p d j → X l yX1_ranked cX1_ranked 7 (some FieldType.int) [] G (yroom 8 1042 5210) (yEnd G (yroom 8 1042 5210) (PRO σ (pickF (tH S) A p 24 0))) 10 [(0, .ref a), (1, .int p), (2, .ref b)] [] τ k n from loop 24 0 _ _ _ _ (Nat.zero_add _) (hRb) bc (encB_BS _) (by omega) (by omega) rfl
  intro d
  induction d with
  | zero =>
    intro j τ z k n hj hR hc hz hk0 hn0 hco
    have hL := hL0.ro hR
    have ho := hL.o
    have hj24 : j = 24 := by omega
    subst hj24
    have hz0 : z = 0 := hz.zero_iff.mpr (fun i hi => by rw [decide_eq_false (by omega)]; rfl)
    refine x_aload_n dX1_ranked_10 2 rfl rfl ?_
    refine x_callF dX1_ranked_11 (con_X6_hasNext hc) (lw_F q509 q513 q515 q121 q517) q511 q510 q516 q514 q512 (np := 0) (by decide +kernel) rfl vC_6 hc ⟨Nat.le_of_ble_eq_true rfl, Nat.le_of_ble_eq_true rfl⟩ (Nat.le_of_ble_eq_true rfl) rfl (Nat.zero_le _) (Nat.zero_le _) (rS ?_) nI'
    refine x_top (x' := 0) (by rw [hz0]; rfl) ?_
    refine x_if_eq (tgt := 111) dX1_ranked_16 (by decide) (fun _ => ?_) (fun h_ => absurd (rfl) h_)
    refine x_bipush (v := (-11)) dX1_ranked_111 (by decide) ?_
    exact x_iret dX1_ranked_113 rfl (pRo (by rw [hco]; rfl) hR)
  | succ d ih =>
    intro j τ z k n hj hR hc hz hk0 hn0 hco
    have hL := hL0.ro hR
    have ho := hL.o
    by_cases ht : tH S j = true
    · have hjC := hI.th ht
      have hC := hI.c
      have hfj : (decide (j ≤ j) && tH S j) = true := by rw [ht]; simp
      have hlo : ∀ i, i < j → (decide (j ≤ i) && tH S i) = false := fun i hi => by rw [decide_eq_false (by omega)]; rfl
      have hzn : z ≠ 0 := fun e => by have := hz.zero_iff.mp e j (by omega); rw [hfj] at this; cases this
      have hk1 := su_le hk0
      have hn1 := su_le hn0
      refine x_aload_n dX1_ranked_10 2 rfl rfl ?_
      refine x_callF dX1_ranked_11 (con_X6_hasNext hc) (lw_F q509 q513 q515 q121 q517) q511 q510 q516 q514 q512 (np := 0) (by decide +kernel) rfl vC_6 hc ⟨Nat.le_of_ble_eq_true rfl, Nat.le_of_ble_eq_true rfl⟩ (Nat.le_of_ble_eq_true rfl) rfl (Nat.zero_le _) (Nat.zero_le _) (rS ?_) nI'
      refine x_top (x' := 1) (by rw [decide_eq_true hzn]; rfl) ?_
      refine x_if_eq (tgt := 111) dX1_ranked_16 (by decide) (fun h_ => absurd h_ (by decide)) (fun _ => ?_)
      refine x_aload_n dX1_ranked_19 2 rfl rfl ?_
      refine x_callF dX1_ranked_20 (con_X6_next hc hz (by omega) hfj hlo) (lw_F q555 q558 q560 q121 q562) q557 q556 q561 q559 q512 (np := 0) (by decide +kernel) rfl vC_6 hc ⟨Nat.le_of_ble_eq_true rfl, Nat.le_of_ble_eq_true rfl⟩ (Nat.le_of_ble_eq_true rfl) rfl (Nat.zero_le _) (Nat.zero_le _) (rA fun u σ9 h8 => ?_) nA'
      obtain ⟨rfl, hc, hbu⟩ := h8
      have hR := hR.nx bn hbu
      have hL := hL0.ro hR
      have ho := hL.o
      have hz := BS.stepT hz (by omega) hfj hlo
      refine x_ckcast dX1_ranked_25 q1211 (bx_rc (by omega)) ?_
      refine x_callV dX1_ranked_28 (con_J20_intValue (n := j) (by omega)) (lw_V q1212 q1213 q1214 q110 q1215) (np := 0) (by decide +kernel) rfl (bx_rc (by omega)) ⟨Nat.le_of_ble_eq_true rfl, Nat.le_of_ble_eq_true rfl⟩ (Nat.le_of_ble_eq_true rfl) rfl (Nat.zero_le _) (Nat.zero_le _) (rS ?_) nI'
      have hAj : A j = cn (fun o => tH S o && isAh S o j) 24 := by rw [hA]; exact (rank_24 hI).symm
      have hcj : c2T S 130 j = 130 := if_pos ht
      have hcj5 : c2T S 643 j = 643 := if_pos ht
      refine x_istore_n (i := 3) (L' := [(3, .int (nI j)), (0, .ref a), (1, .int p), (2, .ref b)]) dX1_ranked_31 rfl (by decide) rfl ?_
      refine x_iconst (v := nI 0) dX1_ranked_32 (by decide) ?_
      refine x_istore (i := 4) (L' := [(4, .int (nI 0)), (3, .int (nI j)), (0, .ref a), (1, .int p), (2, .ref b)]) dX1_ranked_33 (by decide) rfl ?_
      refine x_aload_n dX1_ranked_35 2 rfl rfl ?_
      refine x_callV dX1_ranked_36 (con_X1_maids hL) (lw_V q1130 q1131 q1132 q86 q1133) (np := 0) (by decide +kernel) rfl (rcv_of vC_1 ho) ⟨Nat.le_of_ble_eq_true rfl, Nat.le_of_ble_eq_true rfl⟩ (Nat.le_of_ble_eq_true rfl) rfl (by omega) (by omega) (rA fun it12 σ13 hm11 => ?_) nA'
      obtain ⟨it12n, it12c, it12u⟩ := hm11
      have hL := hL.ro (ro_new it12n it12u)
      have ho := hL.o
      have hc := (ro_new it12n it12u) _ _ hc
      refine x_callF dX1_ranked_39 (con_X5_iterator it12c) (lw_F q1148 q1152 q1154 q120 q1156) q1150 q1149 q1155 q1153 q1151 (np := 0) (by decide +kernel) rfl vC_5 it12c ⟨Nat.le_of_ble_eq_true rfl, Nat.le_of_ble_eq_true rfl⟩ (Nat.le_of_ble_eq_true rfl) rfl (by omega) (by omega) (rA fun b2 σ15 hm14 => ?_) nA'
      obtain ⟨b2n0, b2c, b2u⟩ := hm14
      have n_b_b2 : b ≠ b2 := cell_nn b2n0 hc
      have hL := hL.ro (ro_new b2n0 b2u)
      have ho := hL.o
      have hc := (ro_new b2n0 b2u) _ _ hc
      have b2n : σ b2 = none := ((hR).tr (ro_new it12n it12u)).nn b2n0
      have hRb2 := ((hR).tr (ro_new it12n it12u)).tr (ro_new b2n0 b2u)
      refine x_astore (i := 5) (L' := [(5, .ref b2), (4, .int (nI 0)), (3, .int (nI j)), (0, .ref a), (1, .int p), (2, .ref b)]) dX1_ranked_44 (by decide) rfl ?_
      refine x_locs (L' := [(0, .ref a), (1, .int p), (2, .ref b), (3, .int (nI j)), (4, .int (nI 0)), (5, .ref b2)]) [3, 4, 5, 2, 1, 0] rfl ?_
      obtain ⟨zo, hzo⟩ : ∃ zo, zo = z &&& (z - nI 1) := ⟨_, rfl⟩
      rw [← hzo] at hc hz
      have hzj := hz
      have htj := ht
      suffices loop : ∀ (d2 x : Nat) (τ : AH) (z : Int32) (k n : Nat), x + d2 = 24 → RO σ τ → τ b2 = some (.inr (6, [.int z])) → BS z (fun i => decide (x ≤ i) && tH S i) → su (c2T S 16) x d2 + su (c2T S 130) (j + 1) d ≤ k → su (c2T S 80) x d2 + su (c2T S 643) (j + 1) d ≤ n → τ b = some (.inr (6, [.int zo])) → X l yX1_ranked cX1_ranked 7 (some FieldType.int) [] G (yroom 8 1042 5210) (yEnd G (yroom 8 1042 5210) (PRO σ (pickF (tH S) A p 24 0))) 46 [(0, .ref a), (1, .int p), (2, .ref b), (3, .int (nI j)), (4, .int (nI (cn (fun o => tH S o && isAh S o j) x))), (5, .ref b2)] [] τ k n from loop 24 0 _ _ _ _ (Nat.zero_add _) (hRb2) b2c (encB_BS _) (by omega) (by omega) hc
      intro d2
      induction d2 with
      | zero =>
        intro x τ z k n hj hR hc hz hk0 hn0 hc1
        have hL := hL0.ro hR
        have ho := hL.o
        have hj24 : x = 24 := by omega
        subst hj24
        have hz0 : z = 0 := hz.zero_iff.mpr (fun i hi => by rw [decide_eq_false (by omega)]; rfl)
        refine x_aload dX1_ranked_46 5 rfl ?_
        refine x_callF dX1_ranked_48 (con_X6_hasNext hc) (lw_F q509 q513 q515 q121 q517) q511 q510 q516 q514 q512 (np := 0) (by decide +kernel) rfl vC_6 hc ⟨Nat.le_of_ble_eq_true rfl, Nat.le_of_ble_eq_true rfl⟩ (Nat.le_of_ble_eq_true rfl) rfl (Nat.zero_le _) (Nat.zero_le _) (rS ?_) nI'
        refine x_top (x' := 0) (by rw [hz0]; rfl) ?_
        refine x_if_eq (tgt := 100) dX1_ranked_53 (by decide) (fun _ => ?_) (fun h_ => absurd (rfl) h_)
        have hcnb := cn_le (f := fun o => tH S o && isAh S o j) (n := 24)
        refine x_iload dX1_ranked_100 4 rfl ?_
        refine x_iload_n dX1_ranked_102 1 rfl rfl ?_
        refine x_icmp_ne (tgt := 108) dX1_ranked_103 (by decide) (fun c5 => ?_) (fun c5 => ?_)
        · refine x_goto (tgt := 10) dX1_ranked_108 (by decide) ?_
          refine x_locs (L' := [(0, .ref a), (1, .int p), (2, .ref b)]) [0, 1, 2] rfl ?_
          exact ih (j + 1) _ _ _ _ (by omega) hR hc1 hzj (by omega) (by omega) (hco.trans (pickF_n (Or.inr (by rw [hAj]; exact c5))))
        · refine x_iload_n dX1_ranked_106 3 rfl rfl ?_
          exact x_iret dX1_ranked_107 rfl (pRo (by rw [hco, pickF_y htj (by rw [hAj]; exact c5)]) hR)
      | succ d2 ih2 =>
        intro x τ z k n hj hR hc hz hk0 hn0 hc1
        have hL := hL0.ro hR
        have ho := hL.o
        by_cases ht : tH S x = true
        · have hjC := hI.th ht
          have hC := hI.c
          have hfj : (decide (x ≤ x) && tH S x) = true := by rw [ht]; simp
          have hlo : ∀ i, i < x → (decide (x ≤ i) && tH S i) = false := fun i hi => by rw [decide_eq_false (by omega)]; rfl
          have hzn : z ≠ 0 := fun e => by have := hz.zero_iff.mp e x (by omega); rw [hfj] at this; cases this
          refine x_aload dX1_ranked_46 5 rfl ?_
          refine x_callF dX1_ranked_48 (con_X6_hasNext hc) (lw_F q509 q513 q515 q121 q517) q511 q510 q516 q514 q512 (np := 0) (by decide +kernel) rfl vC_6 hc ⟨Nat.le_of_ble_eq_true rfl, Nat.le_of_ble_eq_true rfl⟩ (Nat.le_of_ble_eq_true rfl) rfl (Nat.zero_le _) (Nat.zero_le _) (rS ?_) nI'
          refine x_top (x' := 1) (by rw [decide_eq_true hzn]; rfl) ?_
          refine x_if_eq (tgt := 100) dX1_ranked_53 (by decide) (fun h_ => absurd h_ (by decide)) (fun _ => ?_)
          refine x_aload dX1_ranked_56 5 rfl ?_
          refine x_callF dX1_ranked_58 (con_X6_next hc hz (by omega) hfj hlo) (lw_F q555 q558 q560 q121 q562) q557 q556 q561 q559 q512 (np := 0) (by decide +kernel) rfl vC_6 hc ⟨Nat.le_of_ble_eq_true rfl, Nat.le_of_ble_eq_true rfl⟩ (Nat.le_of_ble_eq_true rfl) rfl (Nat.zero_le _) (Nat.zero_le _) (rA fun u σ19 h18 => ?_) nA'
          obtain ⟨rfl, hc, hbu⟩ := h18
          have hR := hR.nx b2n hbu
          have hL := hL0.ro hR
          have ho := hL.o
          have hz := BS.stepT hz (by omega) hfj hlo
          refine x_ckcast dX1_ranked_63 q1211 (bx_rc (by omega)) ?_
          refine x_callV dX1_ranked_66 (con_J20_intValue (n := x) (by omega)) (lw_V q1212 q1213 q1214 q110 q1215) (np := 0) (by decide +kernel) rfl (bx_rc (by omega)) ⟨Nat.le_of_ble_eq_true rfl, Nat.le_of_ble_eq_true rfl⟩ (Nat.le_of_ble_eq_true rfl) rfl (Nat.zero_le _) (Nat.zero_le _) (rS ?_) nI'
          have hc1 := at_put hbu hc1 n_b_b2
          have hcx : c2T S 16 x = 16 := if_pos ht
          have hcx5 : c2T S 80 x = 80 := if_pos ht
          have hk1 : c2T S 16 x + su (c2T S 16) (x + 1) d2 + su (c2T S 130) (j + 1) d ≤ k := hk0
          have hn1 : c2T S 80 x + su (c2T S 80) (x + 1) d2 + su (c2T S 643) (j + 1) d ≤ n := hn0
          refine x_istore (i := 6) (L' := [(6, .int (nI x)), (0, .ref a), (1, .int p), (2, .ref b), (3, .int (nI j)), (4, .int (nI (cn (fun o => tH S o && isAh S o j) x))), (5, .ref b2)]) dX1_ranked_69 (by decide) rfl ?_
          refine x_iload dX1_ranked_71 5 rfl ?_
          refine x_iload dX1_ranked_73 0 rfl ?_
          refine x_iload_n dX1_ranked_75 4 rfl rfl ?_
          refine x_icmp_eq (tgt := 93) dX1_ranked_76 (by decide) (fun c1 => ?_) (fun c1 => ?_)
          · have c1 : x = j := nEq (by omega) (by omega) c1
            have hf9 : isAh S x j = false := by rw [c1]; exact isAh_self
            have hs := cn_f0 (f := fun o => tH S o && isAh S o j) (i := x) (by show (tH S x && isAh S x j) = false; rw [hf9]; simp)
            refine x_iconst (v := nI 0) dX1_ranked_93 (by decide) ?_
            refine x_iadd dX1_ranked_94 ?_
            refine x_top (x' := nI (cn (fun o => tH S o && isAh S o j) x + 0)) (nI_add _ _) ?_
            refine x_istore (i := 4) (L' := [(4, .int (nI (cn (fun o => tH S o && isAh S o j) x + 0))), (6, .int (nI x)), (0, .ref a), (1, .int p), (2, .ref b), (3, .int (nI j)), (5, .ref b2)]) dX1_ranked_95 (by decide) rfl ?_
            refine x_goto (tgt := 46) dX1_ranked_97 (by decide) ?_
            refine x_locs (L' := [(0, .ref a), (1, .int p), (2, .ref b), (3, .int (nI j)), (4, .int (nI (cn (fun o => tH S o && isAh S o j) x + 0))), (5, .ref b2)]) [2, 3, 4, 5, 0, 6] rfl ?_
            rw [← hs]
            exact ih2 (x + 1) _ _ _ _ (by omega) hR hc hz (by omega) (by omega) hc1
          · refine x_aload_n dX1_ranked_79 1 rfl rfl ?_
            refine x_iload dX1_ranked_80 0 rfl ?_
            refine x_iload_n dX1_ranked_82 4 rfl rfl ?_
            refine x_callV dX1_ranked_83 (con_X1_isMaidAhead hL hI (x := x) (y := j) (by omega) (by omega)) (lw_V q1500 q1502 qs30 q86 q1503) (np := 2) (by decide +kernel) rfl (rcv_of vC_1 ho) ⟨Nat.le_of_ble_eq_true rfl, Nat.le_of_ble_eq_true rfl⟩ (Nat.le_of_ble_eq_true rfl) rfl (by omega) (by omega) (rP fun σ21 hR3 => ?_) nI'
            have hc := hR3 _ _ hc
            have hc1 := hR3 _ _ hc1
            have hR := hR.tr hR3
            refine x_if_eq (tgt := 93) dX1_ranked_86 (by decide) (fun c2 => ?_) (fun c2 => ?_)
            · have c2 := bI_0 c2
              have hs := cn_f0 (f := fun o => tH S o && isAh S o j) (i := x) (by show (tH S x && isAh S x j) = false; rw [c2]; simp)
              refine x_iconst (v := nI 0) dX1_ranked_93 (by decide) ?_
              refine x_iadd dX1_ranked_94 ?_
              refine x_top (x' := nI (cn (fun o => tH S o && isAh S o j) x + 0)) (nI_add _ _) ?_
              refine x_istore (i := 4) (L' := [(4, .int (nI (cn (fun o => tH S o && isAh S o j) x + 0))), (6, .int (nI x)), (0, .ref a), (1, .int p), (2, .ref b), (3, .int (nI j)), (5, .ref b2)]) dX1_ranked_95 (by decide) rfl ?_
              refine x_goto (tgt := 46) dX1_ranked_97 (by decide) ?_
              refine x_locs (L' := [(0, .ref a), (1, .int p), (2, .ref b), (3, .int (nI j)), (4, .int (nI (cn (fun o => tH S o && isAh S o j) x + 0))), (5, .ref b2)]) [2, 3, 4, 5, 0, 6] rfl ?_
              rw [← hs]
              exact ih2 (x + 1) _ _ _ _ (by omega) hR hc hz (by omega) (by omega) hc1
            · have c2 := bI_1 c2
              have hs := cn_t (f := fun o => tH S o && isAh S o j) (i := x) (by show (tH S x && isAh S x j) = true; rw [ht, c2]; rfl)
              refine x_iconst (v := nI 1) dX1_ranked_89 (by decide) ?_
              refine x_goto (tgt := 94) dX1_ranked_90 (by decide) ?_
              refine x_iadd dX1_ranked_94 ?_
              refine x_top (x' := nI (cn (fun o => tH S o && isAh S o j) x + 1)) (nI_add _ _) ?_
              refine x_istore (i := 4) (L' := [(4, .int (nI (cn (fun o => tH S o && isAh S o j) x + 1))), (6, .int (nI x)), (0, .ref a), (1, .int p), (2, .ref b), (3, .int (nI j)), (5, .ref b2)]) dX1_ranked_95 (by decide) rfl ?_
              refine x_goto (tgt := 46) dX1_ranked_97 (by decide) ?_
              refine x_locs (L' := [(0, .ref a), (1, .int p), (2, .ref b), (3, .int (nI j)), (4, .int (nI (cn (fun o => tH S o && isAh S o j) x + 1))), (5, .ref b2)]) [2, 3, 4, 5, 0, 6] rfl ?_
              rw [← hs]
              exact ih2 (x + 1) _ _ _ _ (by omega) hR hc hz (by omega) (by omega) hc1
        · have hf : tH S x = false := by cases h : tH S x; rfl; exact absurd h ht
          have hk1 : c2T S 16 x + su (c2T S 16) (x + 1) d2 + su (c2T S 130) (j + 1) d ≤ k := hk0
          have hn1 : c2T S 80 x + su (c2T S 80) (x + 1) d2 + su (c2T S 643) (j + 1) d ≤ n := hn0
          have hs := cn_f0 (f := fun o => tH S o && isAh S o j) (i := x) (by show (tH S x && isAh S x j) = false; rw [hf]; rfl)
          rw [← hs]
          exact ih2 (x + 1) _ _ _ _ (by omega) hR hc (hz.stepF hf) (by omega) (by omega) hc1
    · have hf : tH S j = false := by cases h : tH S j; rfl; exact absurd h ht
      have hk1 : c2T S 130 j + su (c2T S 130) (j + 1) d ≤ k := hk0
      have hn1 : c2T S 643 j + su (c2T S 643) (j + 1) d ≤ n := hn0
      exact ih (j + 1) _ _ _ _ (by omega) hR hc (hz.stepF hf) (by omega) (by omega) (hco.trans (pickF_n (Or.inl hf)))
