set_option maxRecDepth 100000
theorem SR.run {M N : MS} {z : Sys} {c : CS} (h : SR M z) (hc : CR N c) (h7 : N.2 7 = 0) (h11 : N.2 11 = 0) (h5 : N.2 5 = M.2 5) (h2 : N.1 2 = M.1 2) (h13 : N.2 13 = M.2 13) (h12 : N.1 12 = M.1 12) : SR N (c, z.2.1, [], z.2.2.2) :=
  ⟨hc, h7, ⟨h5.trans h.2.2.1.1, fun P hP => by rw [h2]; exact h.2.2.1.2 P hP⟩, ⟨Nat.zero_le _, h11, fun i x hx => by cases hx⟩, ⟨h.2.2.2.2.1, h13.trans h.2.2.2.2.2.1, fun i x hx => by rw [h12]; exact h.2.2.2.2.2.2 i x hx⟩⟩
theorem drop_get {α : Type} {xs : List α} {i : Nat} {x : α} (h : xs[i]? = some x) : xs.drop i = x :: xs.drop (i + 1) := by
  obtain ⟨h1, rfl⟩ := List.getElem?_eq_some_iff.mp h
  rw [List.drop_eq_getElem_cons h1]
theorem neg1000 : (-1000 : Int32) = (-1000) := rfl
set_option maxHeartbeats 4000000 in
set_option maxRecDepth 100000 in
theorem con_X2_run {l : Launch} {G : YG} {σ : AH} {a : Nat} {ad : Nat → Nat} {M : MS} {z : Sys} (hM : MAt σ a ad M) (hS : SR M z) (hI : AIs z.1) : Con l yX2_run cX2_run 3 (some FieldType.int) G 9 0 0 [.ref a] σ (PI fun r τ => r = (coRun z.1 z.2.2.1).1 ∧ SP a ad σ ((coRun z.1 z.2.2.1).2, z.2.1, [], z.2.2.2) τ) := by
  refine con_of (by decide) (Nat.le_of_ble_eq_true rfl) ?_
  refine x_locs (L' := [(0, .ref a)]) [0] rfl ?_
  obtain ⟨hC, h7, hSV, hT, hLN⟩ := id hS
  obtain ⟨xs, hxs⟩ : ∃ xs, xs = (pAll z.2.2.1 61 0).2.2 := ⟨_, rfl⟩
  obtain ⟨c, hc⟩ : ∃ c, c = z.1 := ⟨_, rfl⟩
  have hlen : 3 * xs.length ≤ 61 := by
    have hl := hT.1
    rw [hxs]
    rcases pAll_len (t := z.2.2.1) 61 0 (Nat.zero_le _) with ⟨-, q⟩ | ⟨q, -⟩ <;> omega
  refine x_aload_n dX2_run_0 0 rfl rfl ?_
  refine x_callV dX2_run_1 (con_X2_isText hM hT) (lw_V q2150 q2152 qs72 q101 q2153) (np := 0) (by decide +kernel) rfl (rcv_of vC_2 hM.1) ⟨Nat.le_of_ble_eq_true rfl, Nat.le_of_ble_eq_true rfl⟩ (Nat.le_of_ble_eq_true rfl) rfl (by decide) (by decide) (rI fun r0 σ1 h1 => ?_) nI'
  obtain ⟨rfl, N, hN, hFN, hTN, hN15, hNc⟩ := h1
  refine x_istore_n (i := 1) (L' := [(1, .int (bI (pAll z.2.2.1 61 0).1)), (0, .ref a)]) dX2_run_4 rfl (by decide) rfl ?_
  refine x_aload_n dX2_run_5 1 rfl rfl ?_
  refine x_iconst (v := nI 0) dX2_run_6 (by decide) ?_
  refine x_put (fs' := mFs ad (mS N 11 (nI 0))) dX2_run_7 vC_2 in_X2 tyX2_ok nmX2 hN.1 11 (by decide) q1887 rfl rfl (rfl) (rfl) (Nat.le_of_ble_eq_true rfl) rfl (fun σ2 h3 h4 => ?_)
  obtain ⟨hAM5, hBM5⟩ := hN.fld (k := 11) (v := nI 0) h3 h4
  obtain ⟨K, hKd⟩ : ∃ K, K = mS N 11 (nI 0) := ⟨_, rfl⟩
  have hK : MAt σ2 a ad K := by rw [hKd]; exact hAM5
  have hFK : MF a ad σ σ2 := (MF.tr hFN hBM5)
  have hK1 : ∀ i, i ≠ 16 → K.1 i = M.1 i := fun i hi => by rw [hKd]; exact hTN.1 i hi
  have hK2 : ∀ j, j ≠ 11 → j ≠ 15 → j ≠ 17 → K.2 j = M.2 j := fun j a b d => by rw [hKd]; exact (if_neg a).trans (hTN.2 j b d)
  have hK11 : K.2 11 = 0 := by rw [hKd]; rfl
  have hK15 : K.2 15 = nI (pAll z.2.2.1 61 0).2.1 := by rw [hKd]; exact hN15
  have hKc : (pAll z.2.2.1 61 0).1 = true → K.2 17 = nI xs.length ∧ ∀ i x, xs[i]? = some x → CmdAt (K.1 16) i x := by rw [hKd, hxs]; exact hNc
  have hCK : CR K z.1 := ⟨by rw [hK1 0 (by decide)]; exact hC.1, hC.2.1.of (hK2 6 (by decide) (by decide) (by decide)) (hK1 1 (by decide)), (hK2 8 (by decide) (by decide) (by decide)).trans hC.2.2.1, (hK2 9 (by decide) (by decide) (by decide)).trans hC.2.2.2⟩
  refine x_iload_n dX2_run_10 0 rfl rfl ?_
  refine x_if_ne (tgt := 23) dX2_run_11 (by decide) (fun c1 => ?_) (fun c1 => ?_)
  · have c1 := bI_1 c1
    obtain ⟨hK17, hKx⟩ := hKc c1
    have hco : coRun z.1 z.2.2.1 = (if (runC xs z.1).1 < xs.length then (-14, (z.1.1, z.1.2.1, nI 5, nI (runC xs z.1).1)) else (nI xs.length, ((runC xs z.1).2.1, pushP z.1.2.1 z.1.1, z.1.2.2))) := by
      unfold coRun
      rw [if_pos c1, hxs]
    refine x_aload_n dX2_run_23 1 rfl rfl ?_
    refine x_get dX2_run_24 vC_2 in_X2 hK.1 0 (by decide) q1876 rfl ?_
    refine x_iconst (v := nI 0) dX2_run_27 (by decide) ?_
    refine x_aload_n dX2_run_28 1 rfl rfl ?_
    refine x_get dX2_run_29 vC_2 in_X2 hK.1 3 (by decide) q1879 rfl ?_
    refine x_iconst (v := nI 0) dX2_run_32 (by decide) ?_
    refine x_callS dX2_run_33 (con_X2_copies (p := ad 0) (q := ad 3) (N1 := 429) (N2 := 429) (at_ := 0) (on := 0) (f := K.1 0) (g := K.1 3) (hK.2.1 0 rfl) (hK.2.1 3 rfl) (fun z => absurd (hK.2.2 0 3 rfl rfl z) (by decide)) (by decide) (by decide) (by decide) (by decide)) (lw_S q1948 q1949 q101 q1950) (np := 4) (by decide +kernel) rfl ⟨Nat.le_of_ble_eq_true rfl, Nat.le_of_ble_eq_true rfl⟩ (Nat.le_of_ble_eq_true rfl) rfl (by decide) (by decide) (rV fun σ6 h5 => ?_) nV'
    obtain ⟨hA5, hF5⟩ := hK.arr (k := 3) rfl h5.1 h5.2
    refine x_aload_n dX2_run_36 1 rfl rfl ?_
    refine x_iconst (v := nI 1) dX2_run_37 (by decide) ?_
    refine x_put (fs' := mFs ad (mS (mA K 3 (va_cpy (K.1 0) (K.1 3) 0 0 429)) 7 (nI 1))) dX2_run_38 vC_2 in_X2 tyX2_ok nmX2 hA5.1 7 (by decide) q1883 rfl rfl (rfl) (rfl) (Nat.le_of_ble_eq_true rfl) rfl (fun σ8 h9 h10 => ?_)
    obtain ⟨hAM11, hBM11⟩ := hA5.fld (k := 7) (v := nI 1) h9 h10
    refine x_iconst (v := nI 0) dX2_run_41 (by decide) ?_
    refine x_istore_n (i := 2) (L' := [(2, .int (nI 0)), (1, .int (bI (pAll z.2.2.1 61 0).1)), (0, .ref a)]) dX2_run_42 rfl (by decide) rfl ?_
    obtain ⟨J, hJd⟩ : ∃ J, J = mS (mA K 3 (va_cpy (K.1 0) (K.1 3) 0 0 429)) 7 (nI 1) := ⟨_, rfl⟩
    have hJ : MAt σ8 a ad J := by rw [hJd]; exact hAM11
    have hJ1 : ∀ i, i ≠ 3 → J.1 i = K.1 i := fun i hi => by rw [hJd]; exact if_neg hi
    have hJ2 : ∀ j, j ≠ 7 → J.2 j = K.2 j := fun j hj => by rw [hJd]; exact if_neg hj
    have hJ7 : J.2 7 = bI true := by rw [hJd]; rfl
    have hJ3 : GR (J.1 3) z.1.1 := hI.1.1.ex hC.1 (fun j hj => by
      rw [hJd]
      show va_cpy (K.1 0) (K.1 3) 0 0 429 j = _
      rw [pk_cpy_in (by omega) (by omega), hK1 0 (by decide), show 0 + (j - 0) = j by omega])
    have hCJ : CR J z.1 := ⟨by rw [hJ1 0 (by decide)]; exact hCK.1, hCK.2.1.of (hJ2 6 (by decide)) (hJ1 1 (by decide)), (hJ2 8 (by decide)).trans hCK.2.2.1, (hJ2 9 (by decide)).trans hCK.2.2.2⟩
    refine x_locs (L' := [(0, .ref a), (1, .int (bI (pAll z.2.2.1 61 0).1)), (2, .int (nI 0))]) [2, 1, 0] rfl ?_
    have fin : ∀ (i : Nat) (cc : CS) (τ : AH) (Q : MS), i ≤ xs.length → MAt τ a ad Q → MF a ad σ τ → MP J Q → CR Q cc → cc.2.1 = z.1.2.1 → AIs cc → (i < xs.length → (runC xs z.1).1 = i) → (i = xs.length → (runC xs z.1).1 = i ∧ (runC xs z.1).2 = cc) → X l yX2_run cX2_run 3 (some FieldType.int) [] G (yroom 9 0 0) (yEnd G (yroom 9 0 0) (PI fun r τ => r = (coRun z.1 z.2.2.1).1 ∧ SP a ad σ ((coRun z.1 z.2.2.1).2, z.2.1, [], z.2.2.2) τ)) 67 [(0, .ref a), (1, .int (bI (pAll z.2.2.1 61 0).1)), (2, .int (nI i))] [] τ 0 0 := by
      intro i cc τ Q hi hQ hFQ hMP hCQ hpast hIc hlt heq
      have hQ3 : Q.1 3 = J.1 3 := hMP.1 3 (by decide) (by decide)
      have hQ17 : Q.2 17 = nI xs.length := (hMP.2 17 (by decide) (by decide) (by decide) (by decide)).trans ((hJ2 17 (by decide)).trans hK17)
      have hQ11 : Q.2 11 = 0 := (hMP.2 11 (by decide) (by decide) (by decide) (by decide)).trans ((hJ2 11 (by decide)).trans hK11)
      have hQ5 : Q.2 5 = M.2 5 := (hMP.2 5 (by decide) (by decide) (by decide) (by decide)).trans ((hJ2 5 (by decide)).trans (hK2 5 (by decide) (by decide) (by decide)))
      have hQ13 : Q.2 13 = M.2 13 := (hMP.2 13 (by decide) (by decide) (by decide) (by decide)).trans ((hJ2 13 (by decide)).trans (hK2 13 (by decide) (by decide) (by decide)))
      have hQ2 : Q.1 2 = M.1 2 := (hMP.1 2 (by decide) (by decide)).trans ((hJ1 2 (by decide)).trans (hK1 2 (by decide)))
      have hQ12 : Q.1 12 = M.1 12 := (hMP.1 12 (by decide) (by decide)).trans ((hJ1 12 (by decide)).trans (hK1 12 (by decide)))
      rw [← hQ3] at hJ3
      refine x_aload_n dX2_run_67 0 rfl rfl ?_
      refine x_iconst (v := nI 0) dX2_run_68 (by decide) ?_
      refine x_put (fs' := mFs ad (mS Q 7 (nI 0))) dX2_run_69 vC_2 in_X2 tyX2_ok nmX2 hQ.1 7 (by decide) q1883 rfl rfl (rfl) (rfl) (Nat.le_of_ble_eq_true rfl) rfl (fun σ12 h13 h14 => ?_)
      obtain ⟨hAM15, hBM15⟩ := hQ.fld (k := 7) (v := nI 0) h13 h14
      refine x_iload_n dX2_run_72 2 rfl rfl ?_
      refine x_aload_n dX2_run_73 0 rfl rfl ?_
      refine x_get dX2_run_74 vC_2 in_X2 hAM15.1 17 (by decide) q1893 rfl ?_
      refine x_top (x' := nI xs.length) (hQ17) ?_
      refine x_icmp_ge (tgt := 100) dX2_run_77 (by decide) (fun c2 => ?_) (fun c2 => ?_)
      · have c2 : i = xs.length := by have := nLe (by omega) (by omega) c2; omega
        obtain ⟨hr1, hr2⟩ := heq c2
        have hco2 : coRun z.1 z.2.2.1 = (nI xs.length, (cc.1, pushP z.1.2.1 z.1.1, z.1.2.2)) := by rw [hco, if_neg (by omega), hr2]
        have hwhy := runC_why xs z.1 (hr1.trans c2)
        rw [hr2] at hwhy
        refine x_aload_n dX2_run_100 0 rfl rfl ?_
        refine x_aload_n dX2_run_101 0 rfl rfl ?_
        refine x_get dX2_run_102 vC_2 in_X2 hAM15.1 3 (by decide) q1879 rfl ?_
        refine x_callV dX2_run_105 (con_X2_keeps hAM15 (r := 3) (Or.inr rfl) (S := z.1.1) hJ3 hI.1.1 (past := z.1.2.1) (wi := false) (by rw [← hpast]; exact hCQ.2.1.of rfl rfl) (fun P hP => (hI.2 P hP).1) rfl) (lw_V q1944 q1946 qs41 q101 q1947) (np := 1) (by decide +kernel) rfl (rcv_of vC_2 hAM15.1) ⟨Nat.le_of_ble_eq_true rfl, Nat.le_of_ble_eq_true rfl⟩ (Nat.le_of_ble_eq_true rfl) rfl (by decide) (by decide) (rV fun σ16 h9 => ?_) nV'
        obtain ⟨V, hV, hFV, hVi, hVj, hKV⟩ := h9
        refine x_aload_n dX2_run_108 0 rfl rfl ?_
        refine x_get dX2_run_109 vC_2 in_X2 hV.1 17 (by decide) q1893 rfl ?_
        refine x_top (x' := nI xs.length) ((hVj 17 (by decide)).trans hQ17) ?_
        exact x_iret dX2_run_112 rfl (⟨_, rfl, by rw [hco2], V, hV, (hFQ.tr (MF.tr MF.rf hBM15)).tr hFV, by rw [hco2]; exact hS.run ⟨by rw [hVi 0 (by decide)]; exact hCQ.1, hKV, ((hVj 8 (by decide)).trans hCQ.2.2.1).trans (congrArg Prod.fst hwhy), ((hVj 9 (by decide)).trans hCQ.2.2.2).trans (congrArg Prod.snd hwhy)⟩ (hVj 7 (by decide)) ((hVj 11 (by decide)).trans hQ11) ((hVj 5 (by decide)).trans hQ5) ((hVi 2 (by decide)).trans hQ2) ((hVj 13 (by decide)).trans hQ13) ((hVi 12 (by decide)).trans hQ12)⟩)
      · have c2 : i < xs.length := nNle (by omega) (by omega) c2
        have hr1 := hlt c2
        have hco2 : coRun z.1 z.2.2.1 = (-14, (z.1.1, z.1.2.1, nI 5, nI i)) := by rw [hco, if_pos (by omega), hr1]
        refine x_aload_n dX2_run_80 0 rfl rfl ?_
        refine x_get dX2_run_81 vC_2 in_X2 hAM15.1 3 (by decide) q1879 rfl ?_
        refine x_iconst (v := nI 0) dX2_run_84 (by decide) ?_
        refine x_aload_n dX2_run_85 0 rfl rfl ?_
        refine x_get dX2_run_86 vC_2 in_X2 hAM15.1 0 (by decide) q1876 rfl ?_
        refine x_iconst (v := nI 0) dX2_run_89 (by decide) ?_
        refine x_callS dX2_run_90 (con_X2_copies (p := ad 3) (q := ad 0) (N1 := 429) (N2 := 429) (at_ := 0) (on := 0) (f := Q.1 3) (g := Q.1 0) (hAM15.2.1 3 rfl) (hAM15.2.1 0 rfl) (fun z => absurd (hAM15.2.2 3 0 rfl rfl z) (by decide)) (by decide) (by decide) (by decide) (by decide)) (lw_S q1948 q1949 q101 q1950) (np := 4) (by decide +kernel) rfl ⟨Nat.le_of_ble_eq_true rfl, Nat.le_of_ble_eq_true rfl⟩ (Nat.le_of_ble_eq_true rfl) rfl (by decide) (by decide) (rV fun σ18 h8 => ?_) nV'
        obtain ⟨hA8, hF8⟩ := hAM15.arr (k := 0) rfl h8.1 h8.2
        refine x_aload_n dX2_run_93 0 rfl rfl ?_
        refine x_iconst (v := nI 5) dX2_run_94 (by decide) ?_
        refine x_iload_n dX2_run_95 2 rfl rfl ?_
        refine x_callV dX2_run_96 (con_X2_refuses hA8) (lw_V q1936 q1938 qs39 q101 q1939) (np := 2) (by decide +kernel) rfl (rcv_of vC_2 hA8.1) ⟨Nat.le_of_ble_eq_true rfl, Nat.le_of_ble_eq_true rfl⟩ (Nat.le_of_ble_eq_true rfl) rfl (by decide) (by decide) (rI fun r21 σ20 h9 => ?_) nI'
        exact x_iret dX2_run_99 rfl (⟨_, rfl, by rw [hco2]; exact h9.1, _, h9.2.1, ((hFQ.tr (MF.tr MF.rf hBM15)).tr hF8).tr h9.2.2, by rw [hco2]; exact hS.run ⟨hI.1.1.ex hJ3 (fun j hj => by show va_cpy (Q.1 3) (Q.1 0) 0 0 429 j = _; rw [pk_cpy_in (by omega) (by omega), show 0 + (j - 0) = j by omega]), (by rw [← hpast]; exact hCQ.2.1.of rfl rfl), rfl, rfl⟩ rfl hQ11 hQ5 hQ2 hQ13 hQ12⟩)
    suffices loop : ∀ (d i : Nat) (cc : CS) (τ : AH) (Q : MS), i + d = xs.length → MAt τ a ad Q → MF a ad σ τ → MP J Q → CR Q cc → cc.2.1 = z.1.2.1 → AIs cc → (runC xs z.1).1 = i + (runC (xs.drop i) cc).1 → (runC xs z.1).2 = (runC (xs.drop i) cc).2 → X l yX2_run cX2_run 3 (some FieldType.int) [] G (yroom 9 0 0) (yEnd G (yroom 9 0 0) (PI fun r τ => r = (coRun z.1 z.2.2.1).1 ∧ SP a ad σ ((coRun z.1 z.2.2.1).2, z.2.1, [], z.2.2.2) τ)) 43 [(0, .ref a), (1, .int (bI (pAll z.2.2.1 61 0).1)), (2, .int (nI i))] [] τ 0 0 from loop xs.length 0 z.1 _ J (Nat.zero_add _) hJ (MF.tr (MF.tr hFK hF5) hBM11) MP.rf hCJ rfl hI (Nat.zero_add _).symm rfl
    intro d
    induction d with
    | zero =>
      intro i cc τ Q hi hQ hFQ hMP hCQ hpast hIc hr1 hr2
      have hin : i = xs.length := by omega
      subst hin
      rw [List.drop_length] at hr1 hr2
      have hr1 : (runC xs z.1).1 = xs.length := hr1
      have hr2 : (runC xs z.1).2 = cc := hr2
      have hQ17 : Q.2 17 = nI xs.length := (hMP.2 17 (by decide) (by decide) (by decide) (by decide)).trans ((hJ2 17 (by decide)).trans hK17)
      refine x_iload_n dX2_run_43 2 rfl rfl ?_
      refine x_aload_n dX2_run_44 0 rfl rfl ?_
      refine x_get dX2_run_45 vC_2 in_X2 hQ.1 17 (by decide) q1893 rfl ?_
      refine x_top (x' := nI xs.length) (hQ17) ?_
      refine x_icmp_ge (tgt := 67) dX2_run_48 (by decide) (fun _ => ?_) (fun h_ => absurd ((nI_leI (by omega) (by omega)).mpr (Nat.le_refl _)) h_)
      exact fin xs.length cc τ Q (Nat.le_refl _) hQ hFQ hMP hCQ hpast hIc (fun z => absurd z (Nat.lt_irrefl _)) (fun _ => ⟨hr1, hr2⟩)
    | succ d ih =>
      intro i cc τ Q hi hQ hFQ hMP hCQ hpast hIc hr1 hr2
      have hQ17 : Q.2 17 = nI xs.length := (hMP.2 17 (by decide) (by decide) (by decide) (by decide)).trans ((hJ2 17 (by decide)).trans hK17)
      have hQ7 : Q.2 7 = bI true := (hMP.2 7 (by decide) (by decide) (by decide) (by decide)).trans hJ7
      have hQ16 : Q.1 16 = K.1 16 := (hMP.1 16 (by decide) (by decide)).trans (hJ1 16 (by decide))
      obtain ⟨x, hx⟩ : ∃ x, xs[i]? = some x := ⟨_, List.getElem?_eq_getElem (by omega)⟩
      have hxc : CmdAt (Q.1 16) i x := by rw [hQ16]; exact hKx i x hx
      rw [drop_get hx] at hr1 hr2
      refine x_iload_n dX2_run_43 2 rfl rfl ?_
      refine x_aload_n dX2_run_44 0 rfl rfl ?_
      refine x_get dX2_run_45 vC_2 in_X2 hQ.1 17 (by decide) q1893 rfl ?_
      refine x_top (x' := nI xs.length) (hQ17) ?_
      refine x_icmp_ge (tgt := 67) dX2_run_48 (by decide) (fun h_ => absurd h_ (fun h => absurd (nLe (by omega) (by omega) h) (by omega))) (fun _ => ?_)
      refine x_aload_n dX2_run_51 0 rfl rfl ?_
      refine x_iconst (v := nI 3) dX2_run_52 (by decide) ?_
      refine x_iload_n dX2_run_53 2 rfl rfl ?_
      refine x_imul dX2_run_54 ?_
      refine x_top (x' := nI (3 * i)) (pk_mul _ _) ?_
      refine x_callV dX2_run_55 (con_X2_carries hQ hCQ hIc.ivs hQ7 hIc.1.iq hxc (by omega)) (lw_V q2177 q2179 qs78 q101 q2180) (np := 1) (by decide +kernel) rfl (rcv_of vC_2 hQ.1) ⟨Nat.le_of_ble_eq_true rfl, Nat.le_of_ble_eq_true rfl⟩ (Nat.le_of_ble_eq_true rfl) rfl (by decide) (by decide) (rI fun r1 σ22 h2 => ?_) nI'
      obtain ⟨rfl, V, hV, hFV, hVP, hCV⟩ := h2
      refine x_if_lt (tgt := 67) dX2_run_58 (by decide) (fun c3 => ?_) (fun c3 => ?_)
      · have c3 : ¬ 0 ≤ (coCmd true cc x).1 := fun z => absurd c3 (Int32.not_lt.mpr z)
        have hrr : runC (x :: xs.drop (i + 1)) cc = (0, (coCmd true cc x).2) := if_neg c3
        rw [hrr] at hr1 hr2
        refine x_locs (L' := [(0, .ref a), (1, .int (bI (pAll z.2.2.1 61 0).1)), (2, .int (nI i))]) [0, 1, 2] rfl ?_
        exact fin i (coCmd true cc x).2 _ V (by omega) hV (hFQ.tr hFV) (hMP.tr hVP) hCV (cmd_past.trans hpast) hIc.cmd (fun _ => hr1) (fun z => by omega)
      · have c3 : 0 ≤ (coCmd true cc x).1 := Int32.not_lt.mp c3
        have hrr : runC (x :: xs.drop (i + 1)) cc = ((runC (xs.drop (i + 1)) (coCmd true cc x).2).1 + 1, (runC (xs.drop (i + 1)) (coCmd true cc x).2).2) := if_pos c3
        rw [hrr] at hr1 hr2
        refine x_iinc (i := 2) (q := 2) (v := nI (i + 1)) (L' := [(2, .int (nI (i + 1))), (0, .ref a), (1, .int (bI (pAll z.2.2.1 61 0).1))]) dX2_run_61 rfl (nI_1 _) (by decide) rfl ?_
        refine x_goto (tgt := 43) dX2_run_64 (by decide) ?_
        refine x_locs (L' := [(0, .ref a), (1, .int (bI (pAll z.2.2.1 61 0).1)), (2, .int (nI (i + 1)))]) [1, 2, 0] rfl ?_
        exact ih (i + 1) (coCmd true cc x).2 _ V (by omega) hV (hFQ.tr hFV) (hMP.tr hVP) hCV (cmd_past.trans hpast) hIc.cmd (by simp only at hr1; omega) hr2
  · have c1 := bI_0 c1
    have hco : coRun z.1 z.2.2.1 = (-1000 - nI (pAll z.2.2.1 61 0).2.1, z.1) := by
      unfold coRun
      rw [if_neg (by rw [c1]; exact fun z => by cases z)]
    refine x_sipush (v := (-1000)) dX2_run_14 (by decide) ?_
    refine x_aload_n dX2_run_17 1 rfl rfl ?_
    refine x_get dX2_run_18 vC_2 in_X2 hK.1 15 (by decide) q1891 rfl ?_
    refine x_isub dX2_run_21 ?_
    exact x_iret dX2_run_22 rfl (⟨_, rfl, by rw [hco, hK15], K, hK, hFK, by rw [hco]; exact hS.run hCK ((hK2 7 (by decide) (by decide) (by decide)).trans h7) hK11 (hK2 5 (by decide) (by decide) (by decide)) (hK1 2 (by decide)) (hK2 13 (by decide) (by decide) (by decide)) (hK1 12 (by decide))⟩)
