set_option maxRecDepth 100000
set_option maxHeartbeats 4000000 in
set_option maxRecDepth 100000 in
theorem con_X2_isText {l : Launch} {G : YG} {σ : AH} {a : Nat} {ad : Nat → Nat} {M : MS} {t : List Nat} (hM : MAt σ a ad M) (hT : TX M t) : Con l yX2_isText cX2_isText 1 (some FieldType.boolean) G 6 0 0 [.ref a] σ (PI fun z τ => z = bI (pAll t 61 0).1 ∧ ∃ N, MAt τ a ad N ∧ MF a ad σ τ ∧ MT M N ∧ N.2 15 = nI (pAll t 61 0).2.1 ∧ ((pAll t 61 0).1 = true → N.2 17 = nI (pAll t 61 0).2.2.length ∧ ∀ i x, (pAll t 61 0).2.2[i]? = some x → CmdAt (N.1 16) i x)) := by
  refine con_of (by decide) (Nat.le_of_ble_eq_true rfl) ?_
  refine x_locs (L' := [(0, .ref a)]) [0] rfl ?_
  have hl := hT.1
  refine x_aload_n dX2_isText_0 0 rfl rfl ?_
  refine x_iconst (v := nI 0) dX2_isText_1 (by decide) ?_
  refine x_put (fs' := mFs ad (mS M 15 (nI 0))) dX2_isText_2 vC_2 in_X2 tyX2_ok nmX2 hM.1 15 (by decide) q1891 rfl rfl (rfl) (rfl) (Nat.le_of_ble_eq_true rfl) rfl (fun σ1 h2 h3 => ?_)
  obtain ⟨hAM4, hBM4⟩ := hM.fld (k := 15) (v := nI 0) h2 h3
  refine x_aload_n dX2_isText_5 0 rfl rfl ?_
  refine x_iconst (v := nI 0) dX2_isText_6 (by decide) ?_
  refine x_put (fs' := mFs ad (mS (mS M 15 (nI 0)) 17 (nI 0))) dX2_isText_7 vC_2 in_X2 tyX2_ok nmX2 hAM4.1 17 (by decide) q1893 rfl rfl (rfl) (rfl) (Nat.le_of_ble_eq_true rfl) rfl (fun σ5 h6 h7 => ?_)
  obtain ⟨hAM8, hBM8⟩ := hAM4.fld (k := 17) (v := nI 0) h6 h7
  suffices loop : ∀ (f p k : Nat) (pre : List Cmd) (τ : AH) (N : MS), t.length < p + f → p ≤ t.length → 3 * k ≤ p → MAt τ a ad N → MF a ad σ τ → MT M N → N.2 15 = nI p → N.2 17 = nI k → pre.length = k → (∀ i x, pre[i]? = some x → CmdAt (N.1 16) i x) → pAll t 61 0 = ((pAll t f p).1, (pAll t f p).2.1, pre ++ (pAll t f p).2.2) → X l yX2_isText cX2_isText 1 (some FieldType.boolean) [] G (yroom 6 0 0) (yEnd G (yroom 6 0 0) (PI fun z τ => z = bI (pAll t 61 0).1 ∧ ∃ N, MAt τ a ad N ∧ MF a ad σ τ ∧ MT M N ∧ N.2 15 = nI (pAll t 61 0).2.1 ∧ ((pAll t 61 0).1 = true → N.2 17 = nI (pAll t 61 0).2.2.length ∧ ∀ i x, (pAll t 61 0).2.2[i]? = some x → CmdAt (N.1 16) i x))) 10 [(0, .ref a)] [] τ 0 0 from loop 61 0 0 [] _ _ (by omega) (Nat.zero_le _) (Nat.zero_le _) hAM8 (MF.tr (MF.tr MF.rf hBM4) hBM8) (MT.s15.tr MT.s17) rfl rfl rfl (fun i x h => by cases h) rfl
  intro f
  induction f with
  | zero => intro p k pre τ N h1 h2; omega
  | succ f ih =>
    intro p k pre τ N hf hp h3 hN hFN hTN h15 h17 hpl hpre he
    have hTX : TX N t := hTN.tx hT
    have hle := pOrd_le hp
    refine x_aload_n dX2_isText_10 0 rfl rfl ?_
    refine x_callV dX2_isText_11 (con_X2_orderHere hN hTX h15 hp h17 h3) (lw_V q2154 q2156 qs73 q101 q2157) (np := 0) (by decide +kernel) rfl (rcv_of vC_2 hN.1) ⟨Nat.le_of_ble_eq_true rfl, Nat.le_of_ble_eq_true rfl⟩ (Nat.le_of_ble_eq_true rfl) rfl (by decide) (by decide) (rI fun z σ9 h1 => ?_) nI'
    obtain ⟨rfl, K, hK, hFK, hTK, hK17, hK15, hKo, hKc⟩ := h1
    refine x_if_ne (tgt := 19) dX2_isText_14 (by decide) (fun c1 => ?_) (fun c1 => ?_)
    · have c1 := bI_1 c1
      have hle2 := hle.2.2 c1
      obtain ⟨p2, hp2⟩ : ∃ p2, p2 = (pOrd t p).2.1 := ⟨_, rfl⟩
      obtain ⟨x, hx⟩ : ∃ x, x = (pOrd t p).2.2 := ⟨_, rfl⟩
      rw [← hp2] at hK15 hle hle2
      have hKc := hKc c1
      rw [← hx] at hKc
      have hq : pAll t (f + 1) p = (if t[p2]? = some 59 then ((pAll t f (p2 + 1)).1, (pAll t f (p2 + 1)).2.1, x :: (pAll t f (p2 + 1)).2.2) else (decide (p2 = t.length), p2, [x])) := by
        rw [hp2, hx]
        show (if _ then _ else _) = _
        rw [if_pos c1]
      have hK17' : K.2 17 = nI k := hK17.trans h17
      have hTXK : TX K t := hTK.tx hTX
      have hpre2 : ∀ i y, (pre ++ [x])[i]? = some y → CmdAt (K.1 16) i y := fun i y hy => by
        rw [List.getElem?_append] at hy
        split at hy
        · rename_i hi
          exact (hpre i y hy).of (fun j hj => hKo j (by omega))
        · rename_i hi
          have hil := (List.getElem?_eq_some_iff.mp hy).1
          have hie : i = k := by simp at hil; omega
          subst hie
          rw [hpl, Nat.sub_self] at hy
          cases hy
          exact hKc
      refine x_aload_n dX2_isText_19 0 rfl rfl ?_
      refine x_dup dX2_isText_20 rfl ?_
      refine x_get dX2_isText_21 vC_2 in_X2 hK.1 17 (by decide) q1893 rfl ?_
      refine x_top (x' := nI k) (hK17') ?_
      refine x_iconst (v := nI 1) dX2_isText_24 (by decide) ?_
      refine x_iadd dX2_isText_25 ?_
      refine x_top (x' := nI (k + 1)) (nI_add _ _) ?_
      refine x_put (fs' := mFs ad (mS K 17 (nI (k + 1)))) dX2_isText_26 vC_2 in_X2 tyX2_ok nmX2 hK.1 17 (by decide) q1893 rfl rfl (rfl) (rfl) (Nat.le_of_ble_eq_true rfl) rfl (fun σ10 h11 h12 => ?_)
      obtain ⟨hAM13, hBM13⟩ := hK.fld (k := 17) (v := nI (k + 1)) h11 h12
      obtain ⟨J, hJd⟩ : ∃ J, J = mS K 17 (nI (k + 1)) := ⟨_, rfl⟩
      have hJ : MAt σ10 a ad J := by rw [hJd]; exact hAM13
      have hFJ : MF a ad σ σ10 := (hFN.tr hFK).tr hBM13
      have hTJ : MT M J := by rw [hJd]; exact (hTN.tr hTK).tr MT.s17
      have hJ15 : J.2 15 = nI p2 := by rw [hJd]; exact hK15
      have hJ17 : J.2 17 = nI (k + 1) := by rw [hJd]; rfl
      have hJ16 : J.1 16 = K.1 16 := by rw [hJd]; rfl
      have hTXJ : TX J t := hTJ.tx hT
      refine x_aload_n dX2_isText_29 0 rfl rfl ?_
      refine x_bipush (v := nI 59) dX2_isText_30 (by decide) ?_
      refine x_callV dX2_isText_32 (con_X2_skips hJ hTXJ (p := p2) hJ15 (by omega) (c := 59) (by decide)) (lw_V q2169 q2171 qs76 q101 q2172) (np := 1) (by decide +kernel) rfl (rcv_of vC_2 hJ.1) ⟨Nat.le_of_ble_eq_true rfl, Nat.le_of_ble_eq_true rfl⟩ (Nat.le_of_ble_eq_true rfl) rfl (by decide) (by decide) (rI fun z σ14 k1 => ?_) nI'
      refine x_if_ne (tgt := 10) dX2_isText_35 (by decide) (fun d1 => ?_) (fun d1 => ?_)
      · have hs : t[p2]? = some 59 := by
          by_cases e : t[p2]? = some 59
          · exact e
          · have k1 := ite_gn e k1; rw [k1.1] at d1; exact absurd rfl d1
        have k1 := ite_gy hs k1
        rw [if_pos hs] at hq
        rw [hq] at he
        have hlt := get_lt hs
        refine x_locs (L' := [(0, .ref a)]) [0] rfl ?_
        exact ih (p2 + 1) (k + 1) (pre ++ [x]) _ _ (by omega) hlt (by omega) k1.2.1 (hFJ.tr k1.2.2) (hTJ.tr MT.s15) rfl hJ17 (by rw [List.length_append, hpl]; rfl) (fun i y hy => by show CmdAt (J.1 16) i y; rw [hJ16]; exact hpre2 i y hy) (he.trans (by simp))
      · have hs : ¬ t[p2]? = some 59 := by
          intro e
          have k1 := ite_gy e k1; rw [k1.1] at d1; exact absurd d1 (by decide)
        have k1 := ite_gn hs k1
        obtain ⟨rfl, rfl⟩ := k1
        rw [if_neg hs] at hq
        rw [hq] at he
        refine x_aload_n dX2_isText_38 0 rfl rfl ?_
        refine x_get dX2_isText_39 vC_2 in_X2 hJ.1 15 (by decide) q1891 rfl ?_
        refine x_top (x' := nI p2) (hJ15) ?_
        refine x_aload_n dX2_isText_42 0 rfl rfl ?_
        refine x_get dX2_isText_43 vC_2 in_X2 hJ.1 11 (by decide) q1887 rfl ?_
        refine x_top (x' := nI t.length) (hTXJ.2.1) ?_
        refine x_icmp_ne (tgt := 53) dX2_isText_46 (by decide) (fun c3 => ?_) (fun c3 => ?_)
        · have c3 : decide (p2 = t.length) = false := decide_eq_false (nNe (by omega) (by omega) c3)
          refine x_iconst (v := nI 0) dX2_isText_53 (by decide) ?_
          exact x_zret dX2_isText_54 rfl (rfl) (⟨_, rfl, by rw [he, c3]; rfl, J, hJ, hFJ, hTJ, by rw [he]; exact hJ15, fun _ => by rw [he]; exact ⟨by rw [hJ17, List.length_append, hpl]; rfl, fun i y hy => by rw [hJ16]; exact hpre2 i y hy⟩⟩)
        · have c3 : decide (p2 = t.length) = true := decide_eq_true (nEq (by omega) (by omega) c3)
          refine x_iconst (v := nI 1) dX2_isText_49 (by decide) ?_
          refine x_goto (tgt := 54) dX2_isText_50 (by decide) ?_
          exact x_zret dX2_isText_54 rfl (rfl) (⟨_, rfl, by rw [he, c3]; rfl, J, hJ, hFJ, hTJ, by rw [he]; exact hJ15, fun _ => by rw [he]; exact ⟨by rw [hJ17, List.length_append, hpl]; rfl, fun i y hy => by rw [hJ16]; exact hpre2 i y hy⟩⟩)
    · have c1 := bI_0 c1
      have hq : pAll t (f + 1) p = (false, (pOrd t p).2.1, []) := by
        show (if _ then _ else _) = _
        rw [if_neg (by rw [c1]; exact fun z => by cases z)]
      rw [hq] at he
      refine x_iconst (v := nI 0) dX2_isText_17 (by decide) ?_
      exact x_zret dX2_isText_18 rfl (rfl) (⟨_, rfl, by rw [he]; rfl, K, hK, hFN.tr hFK, hTN.tr hTK, by rw [he]; exact hK15, fun z => by rw [he] at z; cases z⟩)
set_option maxHeartbeats 4000000 in
set_option maxRecDepth 100000 in
theorem con_X2_carries {l : Launch} {G : YG} {σ : AH} {a : Nat} {ad : Nat → Nat} {M : MS} {c : CS} {k : Nat} {x : Cmd} {wi : Bool} (hM : MAt σ a ad M) (hC : CR M c) (hI : IVs c) (hW : M.2 7 = bI wi) (hQ : IQ c.1) (hx : CmdAt (M.1 16) k x) (hk : 3 * k + 2 < 93) : Con l yX2_carries cX2_carries 2 (some FieldType.int) G 8 0 0 [.ref a, .int (nI (3 * k))] σ (PI fun z τ => z = (coCmd wi c x).1 ∧ CP a ad σ M (coCmd wi c x).2 τ) := by
  refine con_of (by decide) (Nat.le_of_ble_eq_true rfl) ?_
  refine x_locs (L' := [(0, .ref a), (1, .int (nI (3 * k)))]) [0, 1] rfl ?_
  refine x_aload_n dX2_carries_0 0 rfl rfl ?_
  refine x_get dX2_carries_1 vC_2 in_X2 hM.1 16 (by decide) q1892 rfl ?_
  refine x_iload_n dX2_carries_4 1 rfl rfl ?_
  obtain ⟨hsg, hx0, hx1, hx2⟩ := hx
  obtain ⟨sg, mm, ss⟩ := x
  simp only at hsg hx0 hx1 hx2
  refine x_iald (N := 93) (j := 3 * k) (v := nI sg) dX2_carries_5 (hM.2.1 16 rfl) (rfl) (by omega) (by decide) (hx0) ?_
  rcases hsg with rfl | rfl | rfl | rfl | rfl
  · refine x_lookup (off := 34) (tgt := 40) dX2_carries_6 (by decide) (by decide) (by decide) ?_
    have hco : coCmd wi c (109, mm, ss) = coMaid wi c := rfl
    refine x_aload_n dX2_carries_40 0 rfl rfl ?_
    refine x_callV dX2_carries_41 (con_X2_maid hM hC hI hW) (lw_V q2181 q1933 q1934 q101 q1935) (np := 0) (by decide +kernel) rfl (rcv_of vC_2 hM.1) ⟨Nat.le_of_ble_eq_true rfl, Nat.le_of_ble_eq_true rfl⟩ (Nat.le_of_ble_eq_true rfl) rfl (by decide) (by decide) (rI fun r2 σ1 h1 => ?_) nI'
    exact x_iret dX2_carries_44 rfl (⟨_, rfl, by rw [hco]; exact h1.1, by rw [hco]; exact h1.2⟩)
  · refine x_lookup (off := 39) (tgt := 45) dX2_carries_6 (by decide) (by decide) (by decide) ?_
    have hco : coCmd wi c (46, mm, ss) = coEnd wi c (nI mm) := rfl
    refine x_aload_n dX2_carries_45 0 rfl rfl ?_
    refine x_aload_n dX2_carries_46 0 rfl rfl ?_
    refine x_get dX2_carries_47 vC_2 in_X2 hM.1 16 (by decide) q1892 rfl ?_
    refine x_iload_n dX2_carries_50 1 rfl rfl ?_
    refine x_iconst (v := nI 1) dX2_carries_51 (by decide) ?_
    refine x_iadd dX2_carries_52 ?_
    refine x_top (x' := nI (3 * k + 1)) (nI_add _ _) ?_
    refine x_iald (N := 93) (j := 3 * k + 1) (v := nI mm) dX2_carries_53 (hM.2.1 16 rfl) (rfl) (by omega) (by decide) (hx1 (by decide)) ?_
    refine x_callV dX2_carries_54 (con_X2_end hM hC hI hW) (lw_V q2182 q2054 q2055 q101 q2056) (np := 1) (by decide +kernel) rfl (rcv_of vC_2 hM.1) ⟨Nat.le_of_ble_eq_true rfl, Nat.le_of_ble_eq_true rfl⟩ (Nat.le_of_ble_eq_true rfl) rfl (by decide) (by decide) (rI fun r4 σ3 h1 => ?_) nI'
    exact x_iret dX2_carries_57 rfl (⟨_, rfl, by rw [hco]; exact h1.1, by rw [hco]; exact h1.2⟩)
  · refine x_lookup (off := 73) (tgt := 79) dX2_carries_6 (by decide) (by decide) (by decide) ?_
    have hco : coCmd wi c (115, mm, ss) = coWant wi c (nI mm) (nI ss) false := rfl
    refine x_aload_n dX2_carries_79 0 rfl rfl ?_
    refine x_aload_n dX2_carries_80 0 rfl rfl ?_
    refine x_get dX2_carries_81 vC_2 in_X2 hM.1 16 (by decide) q1892 rfl ?_
    refine x_iload_n dX2_carries_84 1 rfl rfl ?_
    refine x_iconst (v := nI 1) dX2_carries_85 (by decide) ?_
    refine x_iadd dX2_carries_86 ?_
    refine x_top (x' := nI (3 * k + 1)) (nI_add _ _) ?_
    refine x_iald (N := 93) (j := 3 * k + 1) (v := nI mm) dX2_carries_87 (hM.2.1 16 rfl) (rfl) (by omega) (by decide) (hx1 (by decide)) ?_
    refine x_aload_n dX2_carries_88 0 rfl rfl ?_
    refine x_get dX2_carries_89 vC_2 in_X2 hM.1 16 (by decide) q1892 rfl ?_
    refine x_iload_n dX2_carries_92 1 rfl rfl ?_
    refine x_iconst (v := nI 2) dX2_carries_93 (by decide) ?_
    refine x_iadd dX2_carries_94 ?_
    refine x_top (x' := nI (3 * k + 2)) (nI_add _ _) ?_
    refine x_iald (N := 93) (j := 3 * k + 2) (v := nI ss) dX2_carries_95 (hM.2.1 16 rfl) (rfl) (by omega) (by decide) (hx2 (by decide) (by decide)) ?_
    refine x_aload_n dX2_carries_96 0 rfl rfl ?_
    refine x_get dX2_carries_97 vC_2 in_X2 hM.1 16 (by decide) q1892 rfl ?_
    refine x_iload_n dX2_carries_100 1 rfl rfl ?_
    refine x_iald (N := 93) (j := 3 * k) (v := nI 115) dX2_carries_101 (hM.2.1 16 rfl) (rfl) (by omega) (by decide) (hx0) ?_
    refine x_bipush (v := nI 120) dX2_carries_102 (by decide) ?_
    refine x_icmp_ne (tgt := 111) dX2_carries_104 (by decide) (fun _ => ?_) (fun h_ => absurd h_ (by decide))
    refine x_iconst (v := nI 0) dX2_carries_111 (by decide) ?_
    refine x_callV dX2_carries_112 (con_X2_want (b := false) hM hC hI hW hQ) (lw_V q2184 q1956 q1957 q101 q1958) (np := 3) (by decide +kernel) rfl (rcv_of vC_2 hM.1) ⟨Nat.le_of_ble_eq_true rfl, Nat.le_of_ble_eq_true rfl⟩ (Nat.le_of_ble_eq_true rfl) rfl (by decide) (by decide) (rI fun r6 σ5 h1 => ?_) nI'
    exact x_iret dX2_carries_115 rfl (⟨_, rfl, by rw [hco]; exact h1.1, by rw [hco]; exact h1.2⟩)
  · refine x_lookup (off := 73) (tgt := 79) dX2_carries_6 (by decide) (by decide) (by decide) ?_
    have hco : coCmd wi c (120, mm, ss) = coWant wi c (nI mm) (nI ss) true := rfl
    refine x_aload_n dX2_carries_79 0 rfl rfl ?_
    refine x_aload_n dX2_carries_80 0 rfl rfl ?_
    refine x_get dX2_carries_81 vC_2 in_X2 hM.1 16 (by decide) q1892 rfl ?_
    refine x_iload_n dX2_carries_84 1 rfl rfl ?_
    refine x_iconst (v := nI 1) dX2_carries_85 (by decide) ?_
    refine x_iadd dX2_carries_86 ?_
    refine x_top (x' := nI (3 * k + 1)) (nI_add _ _) ?_
    refine x_iald (N := 93) (j := 3 * k + 1) (v := nI mm) dX2_carries_87 (hM.2.1 16 rfl) (rfl) (by omega) (by decide) (hx1 (by decide)) ?_
    refine x_aload_n dX2_carries_88 0 rfl rfl ?_
    refine x_get dX2_carries_89 vC_2 in_X2 hM.1 16 (by decide) q1892 rfl ?_
    refine x_iload_n dX2_carries_92 1 rfl rfl ?_
    refine x_iconst (v := nI 2) dX2_carries_93 (by decide) ?_
    refine x_iadd dX2_carries_94 ?_
    refine x_top (x' := nI (3 * k + 2)) (nI_add _ _) ?_
    refine x_iald (N := 93) (j := 3 * k + 2) (v := nI ss) dX2_carries_95 (hM.2.1 16 rfl) (rfl) (by omega) (by decide) (hx2 (by decide) (by decide)) ?_
    refine x_aload_n dX2_carries_96 0 rfl rfl ?_
    refine x_get dX2_carries_97 vC_2 in_X2 hM.1 16 (by decide) q1892 rfl ?_
    refine x_iload_n dX2_carries_100 1 rfl rfl ?_
    refine x_iald (N := 93) (j := 3 * k) (v := nI 120) dX2_carries_101 (hM.2.1 16 rfl) (rfl) (by omega) (by decide) (hx0) ?_
    refine x_bipush (v := nI 120) dX2_carries_102 (by decide) ?_
    refine x_icmp_ne (tgt := 111) dX2_carries_104 (by decide) (fun h_ => absurd (rfl) h_) (fun _ => ?_)
    refine x_iconst (v := nI 1) dX2_carries_107 (by decide) ?_
    refine x_goto (tgt := 112) dX2_carries_108 (by decide) ?_
    refine x_callV dX2_carries_112 (con_X2_want (b := true) hM hC hI hW hQ) (lw_V q2184 q1956 q1957 q101 q1958) (np := 3) (by decide +kernel) rfl (rcv_of vC_2 hM.1) ⟨Nat.le_of_ble_eq_true rfl, Nat.le_of_ble_eq_true rfl⟩ (Nat.le_of_ble_eq_true rfl) rfl (by decide) (by decide) (rI fun r8 σ7 h1 => ?_) nI'
    exact x_iret dX2_carries_115 rfl (⟨_, rfl, by rw [hco]; exact h1.1, by rw [hco]; exact h1.2⟩)
  · refine x_lookup (off := 52) (tgt := 58) dX2_carries_6 (by decide) (by decide) (by decide) ?_
    have hco : coCmd wi c (45, mm, ss) = coFree wi c (nI mm) (nI ss) := rfl
    refine x_aload_n dX2_carries_58 0 rfl rfl ?_
    refine x_aload_n dX2_carries_59 0 rfl rfl ?_
    refine x_get dX2_carries_60 vC_2 in_X2 hM.1 16 (by decide) q1892 rfl ?_
    refine x_iload_n dX2_carries_63 1 rfl rfl ?_
    refine x_iconst (v := nI 1) dX2_carries_64 (by decide) ?_
    refine x_iadd dX2_carries_65 ?_
    refine x_top (x' := nI (3 * k + 1)) (nI_add _ _) ?_
    refine x_iald (N := 93) (j := 3 * k + 1) (v := nI mm) dX2_carries_66 (hM.2.1 16 rfl) (rfl) (by omega) (by decide) (hx1 (by decide)) ?_
    refine x_aload_n dX2_carries_67 0 rfl rfl ?_
    refine x_get dX2_carries_68 vC_2 in_X2 hM.1 16 (by decide) q1892 rfl ?_
    refine x_iload_n dX2_carries_71 1 rfl rfl ?_
    refine x_iconst (v := nI 2) dX2_carries_72 (by decide) ?_
    refine x_iadd dX2_carries_73 ?_
    refine x_top (x' := nI (3 * k + 2)) (nI_add _ _) ?_
    refine x_iald (N := 93) (j := 3 * k + 2) (v := nI ss) dX2_carries_74 (hM.2.1 16 rfl) (rfl) (by omega) (by decide) (hx2 (by decide) (by decide)) ?_
    refine x_callV dX2_carries_75 (con_X2_free hM hC hI hW) (lw_V q2183 q2050 q2051 q101 q2052) (np := 2) (by decide +kernel) rfl (rcv_of vC_2 hM.1) ⟨Nat.le_of_ble_eq_true rfl, Nat.le_of_ble_eq_true rfl⟩ (Nat.le_of_ble_eq_true rfl) rfl (by decide) (by decide) (rI fun r10 σ9 h1 => ?_) nI'
    exact x_iret dX2_carries_78 rfl (⟨_, rfl, by rw [hco]; exact h1.1, by rw [hco]; exact h1.2⟩)
def AIs (c : CS) : Prop := AI c.1 ∧ ∀ P ∈ c.2.1, AI P
theorem AIs.ivs {c : CS} (h : AIs c) : IVs c := ⟨h.1.1, fun P hP => (h.2 P hP).1⟩
theorem mem_push {past : List AS} {S P : AS} (h : P ∈ pushP past S) : P = S ∨ P ∈ past := by
  unfold pushP at h
  split at h
  · rcases List.mem_append.mp h with q | q
    · exact Or.inr (List.mem_of_mem_drop q)
    · rcases List.mem_cons.mp q with q | q
      · exact Or.inl q
      · cases q
  · rcases List.mem_append.mp h with q | q
    · exact Or.inr q
    · rcases List.mem_cons.mp q with q | q
      · exact Or.inl q
      · cases q
theorem AIs.doR {wi : Bool} {c : CS} {r : AR} (h : AIs c) (hr : ∀ S t, r = .inr (S, t) → AI S) : AIs (doR wi c r).2 := by
  cases r with
  | inl x => exact h
  | inr y =>
    refine ⟨hr y.1 y.2 rfl, fun P hP => ?_⟩
    cases wi with
    | true => exact h.2 P hP
    | false =>
      rcases mem_push hP with e | e
      · rw [e]; exact h.1
      · exact h.2 P e
theorem AIs.maid {wi : Bool} {c : CS} (h : AIs c) : AIs (coMaid wi c).2 := h.doR (fun _ _ e => h.1.maid e)
theorem AIs.want {wi b : Bool} {c : CS} {v u : Int32} (h : AIs c) : AIs (coWant wi c v u b).2 := by
  unfold coWant
  split
  · rename_i hc
    rw [Bool.and_eq_true] at hc
    obtain ⟨m, hm, rfl, hvn, htm⟩ := isT_of h.1.1.c hc.1
    obtain ⟨s, hs, rfl, hun⟩ := isS_of hc.2
    rw [hvn, hun]
    exact h.doR (fun _ _ e => h.1.want htm hs (by cases b <;> simp) e)
  · exact h
theorem AIs.free {wi : Bool} {c : CS} {v u : Int32} (h : AIs c) : AIs (coFree wi c v u).2 := by
  unfold coFree
  split
  · rename_i hc
    rw [Bool.and_eq_true] at hc
    obtain ⟨s, hs, rfl, hun⟩ := isS_of hc.2
    rw [hun]
    exact h.doR (fun _ _ e => h.1.free hs e)
  · exact h
theorem AIs.fin {wi : Bool} {c : CS} {v : Int32} (h : AIs c) : AIs (coEnd wi c v).2 := by
  unfold coEnd
  split
  · rename_i hc
    obtain ⟨m, hm, rfl, hvn, htm⟩ := isT_of h.1.1.c hc
    rw [hvn]
    exact h.doR (fun S t e => by
      have : (opEnd c.1 m).1 = S := congrArg Prod.fst (Sum.inr.inj e)
      rw [← this]; exact h.1.fin htm)
  · exact h
theorem AIs.cmd {wi : Bool} {c : CS} {x : Cmd} (h : AIs c) : AIs (coCmd wi c x).2 := by
  unfold coCmd
  split
  · exact h.maid
  · split
    · exact h.fin
    · split
      · exact h.free
      · exact h.want
theorem cmd_cases {wi : Bool} {c : CS} {x : Cmd} : (∃ r, coCmd wi c x = doR wi c r) ∨ coCmd wi c x = (-11, c) := by
  unfold coCmd
  split
  · exact Or.inl ⟨_, rfl⟩
  · split
    · unfold coEnd; split
      · exact Or.inl ⟨_, rfl⟩
      · exact Or.inr rfl
    · split
      · unfold coFree; split
        · exact Or.inl ⟨_, rfl⟩
        · exact Or.inr rfl
      · unfold coWant; split
        · exact Or.inl ⟨_, rfl⟩
        · exact Or.inr rfl
theorem cmd_past {c : CS} {x : Cmd} : (coCmd true c x).2.2.1 = c.2.1 := by
  rcases cmd_cases (wi := true) (c := c) (x := x) with ⟨r, h⟩ | h
  · rw [h]; cases r <;> rfl
  · rw [h]
/-- a command that is carried out leaves the reason -/
theorem cmd_why {c : CS} {x : Cmd} (h : 0 ≤ (coCmd true c x).1) : (coCmd true c x).2.2.2 = c.2.2 := by
  rcases cmd_cases (wi := true) (c := c) (x := x) with ⟨r, hr⟩ | hr
  · rw [hr] at h ⊢
    cases r with
    | inl y => exact absurd h (by show ¬ (0 : Int32) ≤ -14; decide)
    | inr y => rfl
  · rw [hr]
theorem runC_le : ∀ (xs : List Cmd) (c : CS), (runC xs c).1 ≤ xs.length := by
  intro xs
  induction xs with
  | nil => intro c; exact Nat.le_refl _
  | cons x xs ih =>
    intro c
    unfold runC
    split
    · exact Nat.succ_le_succ (ih _)
    · exact Nat.zero_le _
theorem runC_past : ∀ (xs : List Cmd) (c : CS), (runC xs c).2.2.1 = c.2.1 := by
  intro xs
  induction xs with
  | nil => intro c; rfl
  | cons x xs ih =>
    intro c
    unfold runC
    split
    · exact (ih _).trans cmd_past
    · exact cmd_past
theorem runC_why : ∀ (xs : List Cmd) (c : CS), (runC xs c).1 = xs.length → (runC xs c).2.2.2 = c.2.2 := by
  intro xs
  induction xs with
  | nil => intro c _; rfl
  | cons x xs ih =>
    intro c h
    unfold runC at h ⊢
    split at h
    · rename_i h0
      rw [if_pos h0]
      exact (ih _ (Nat.succ.inj h)).trans (cmd_why h0)
    · cases h
theorem AIs.run : ∀ (xs : List Cmd) {c : CS}, AIs c → AIs (runC xs c).2 := by
  intro xs
  induction xs with
  | nil => intro c h; exact h
  | cons x xs ih =>
    intro c h
    unfold runC
    split
    · exact ih h.cmd
    · exact h.cmd
theorem pAll_len {t : List Nat} : ∀ (f p : Nat), p ≤ t.length → (pAll t f p).2.1 ≤ t.length ∧ p + 3 * (pAll t f p).2.2.length ≤ t.length + 1 ∨ (pAll t f p).2.2.length = 0 ∧ (pAll t f p).2.1 ≤ t.length := by
  intro f
  induction f with
  | zero => intro p hp; exact Or.inr ⟨rfl, hp⟩
  | succ f ih =>
    intro p hp
    have hle := pOrd_le hp
    unfold pAll
    split
    · rename_i h
      have h2 := hle.2.2 h
      split
      · rename_i h3
        have hlt := get_lt h3
        left
        rcases ih ((pOrd t p).2.1 + 1) hlt with ⟨q1, q2⟩ | ⟨q1, q2⟩
        · refine ⟨q1, ?_⟩
          show p + 3 * ((pAll t f ((pOrd t p).2.1 + 1)).2.2.length + 1) ≤ _
          omega
        · refine ⟨q2, ?_⟩
          show p + 3 * ((pAll t f ((pOrd t p).2.1 + 1)).2.2.length + 1) ≤ _
          omega
      · left
        refine ⟨hle.2.1, ?_⟩
        show p + 3 * (0 + 1) ≤ _
        omega
    · exact Or.inr ⟨rfl, hle.2.1⟩
