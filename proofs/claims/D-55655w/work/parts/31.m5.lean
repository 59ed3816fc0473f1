set_option maxRecDepth 100000
set_option maxHeartbeats 4000000 in
set_option maxRecDepth 100000 in
theorem con_X2_gives {l : Launch} {G : YG} {σ : AH} {a : Nat} {ad : Nat → Nat} {M : MS} {S : AS} {s : Nat} (hM : MAt σ a ad M) (hG : GR (M.1 0) S) (hI : IV S) (hs : s < 8) : Con l yX2_gives cX2_gives 5 (some FieldType.int) G 2 0 0 [.ref a, .int (nI s)] σ (PI fun z τ => z = nI (serve S s).2 ∧ GP a ad σ M (serve S s).1 τ) := by
  refine con_of (by decide) (Nat.le_of_ble_eq_true rfl) ?_
  refine x_locs (L' := [(0, .ref a), (1, .int (nI s))]) [0, 1] rfl ?_
  refine x_iconst (v := nI 0) dX2_gives_0 (by decide) ?_
  refine x_istore_n (i := 2) (L' := [(2, .int (nI 0)), (0, .ref a), (1, .int (nI s))]) dX2_gives_1 rfl (by decide) rfl ?_
  refine x_locs (L' := [(0, .ref a), (1, .int (nI s)), (2, .int (nI 0))]) [1, 2, 0] rfl ?_
  suffices loop : ∀ (d n : Nat) (T : AS) (τ : AH) (N : MS), (qu T s).length = d → IV T → GR (N.1 0) T → MAt τ a ad N → MF a ad σ τ → M0 M N → (serve S s).1 = (serve T s).1 → (serve S s).2 = n + (serve T s).2 → X l yX2_gives cX2_gives 5 (some FieldType.int) [] G (yroom 2 0 0) (yEnd G (yroom 2 0 0) (PI fun z τ => z = nI (serve S s).2 ∧ GP a ad σ M (serve S s).1 τ)) 2 [(0, .ref a), (1, .int (nI s)), (2, .int (nI n))] [] τ 0 0 from loop _ 0 S σ M rfl hI hG hM MF.rf M0.rf rfl (Nat.zero_add _).symm
  intro d
  induction d with
  | zero =>
    intro n T τ N hd hT hGT hN hFN h0N e1 e2
    have hq := List.length_eq_zero_iff.mp hd
    rw [serve_nil hq] at e1 e2
    refine x_aload_n dX2_gives_2 0 rfl rfl ?_
    refine x_iload_n dX2_gives_3 1 rfl rfl ?_
    refine x_iconst (v := nI 2) dX2_gives_4 (by decide) ?_
    refine x_callV dX2_gives_5 (con_X2_shelf hN (s := s) (w := 2) hs (by decide)) (lw_V q1989 q1991 qs49 q101 q1992) (np := 2) (by decide +kernel) rfl (rcv_of vC_2 hN.1) ⟨Nat.le_of_ble_eq_true rfl, Nat.le_of_ble_eq_true rfl⟩ (Nat.le_of_ble_eq_true rfl) rfl (by decide) (by decide) (rS ?_) nI'
    refine x_top (x' := nI (qu T s).length) ((hGT.2.2.2.2.1 s hs).2.2) ?_
    refine x_if_le (tgt := 58) dX2_gives_8 (by decide) (fun _ => ?_) (fun h_ => absurd (by rw [hd]; decide) h_)
    refine x_iload_n dX2_gives_58 2 rfl rfl ?_
    exact x_iret dX2_gives_59 rfl (⟨_, rfl, by rw [e2]; rfl, N, hN, hFN, h0N, by rw [e1]; exact hGT⟩)
  | succ d ih =>
    intro n T τ N hd hT hGT hN hFN h0N e1 e2
    have hl8 := hT.len hs
    obtain ⟨w, ws, hq⟩ : ∃ w ws, qu T s = w :: ws := by
      cases h : qu T s with
      | nil => rw [h] at hd; cases hd
      | cons w ws => exact ⟨w, ws, rfl⟩
    obtain ⟨ha, hk, hnm⟩ := noMore_head hT hs hq
    have hw := hT.w hs (show w ∈ qu T s by rw [hq]; exact List.mem_cons_self)
    have hw2 := hT.th hw.1
    have hC := hT.c
    have hws : ws.length = d := by rw [hq] at hd; simpa using hd
    refine x_aload_n dX2_gives_2 0 rfl rfl ?_
    refine x_iload_n dX2_gives_3 1 rfl rfl ?_
    refine x_iconst (v := nI 2) dX2_gives_4 (by decide) ?_
    refine x_callV dX2_gives_5 (con_X2_shelf hN (s := s) (w := 2) hs (by decide)) (lw_V q1989 q1991 qs49 q101 q1992) (np := 2) (by decide +kernel) rfl (rcv_of vC_2 hN.1) ⟨Nat.le_of_ble_eq_true rfl, Nat.le_of_ble_eq_true rfl⟩ (Nat.le_of_ble_eq_true rfl) rfl (by decide) (by decide) (rS ?_) nI'
    refine x_top (x' := nI (qu T s).length) ((hGT.2.2.2.2.1 s hs).2.2) ?_
    refine x_if_le (tgt := 58) dX2_gives_8 (by decide) (fun h_ => absurd h_ (nI_nle (by omega) (by omega))) (fun _ => ?_)
    refine x_aload_n dX2_gives_11 0 rfl rfl ?_
    refine x_iload_n dX2_gives_12 1 rfl rfl ?_
    refine x_iconst (v := nI 3) dX2_gives_13 (by decide) ?_
    refine x_callV dX2_gives_14 (con_X2_shelf hN (s := s) (w := 3) hs (by decide)) (lw_V q1989 q1991 qs49 q101 q1992) (np := 2) (by decide +kernel) rfl (rcv_of vC_2 hN.1) ⟨Nat.le_of_ble_eq_true rfl, Nat.le_of_ble_eq_true rfl⟩ (Nat.le_of_ble_eq_true rfl) rfl (by decide) (by decide) (rS ?_) nI'
    refine x_top (x' := nI w.1) (hGT.2.2.2.2.2 s 0 w hs (by rw [hq]; rfl)) ?_
    refine x_istore_n (i := 3) (L' := [(3, .int (nI w.1)), (0, .ref a), (1, .int (nI s)), (2, .int (nI n))]) dX2_gives_17 rfl (by decide) rfl ?_
    refine x_aload_n dX2_gives_18 1 rfl rfl ?_
    refine x_iload_n dX2_gives_19 0 rfl rfl ?_
    refine x_iconst (v := nI 2) dX2_gives_20 (by decide) ?_
    refine x_callV dX2_gives_21 (con_X2_of hN (m := w.1) (w := 2) (by omega) (by decide)) (lw_V q1966 q1968 qs44 q101 q1969) (np := 2) (by decide +kernel) rfl (rcv_of vC_2 hN.1) ⟨Nat.le_of_ble_eq_true rfl, Nat.le_of_ble_eq_true rfl⟩ (Nat.le_of_ble_eq_true rfl) rfl (by decide) (by decide) (rS ?_) nI'
    refine x_top (x' := nI w.2.1) ((hGT.2.2.1 w.1 hw2).2.trans (by rw [hk])) ?_
    refine x_istore (i := 4) (L' := [(4, .int (nI w.2.1)), (3, .int (nI w.1)), (0, .ref a), (1, .int (nI s)), (2, .int (nI n))]) dX2_gives_24 (by decide) rfl ?_
    refine x_aload_n dX2_gives_26 2 rfl rfl ?_
    refine x_iload_n dX2_gives_27 1 rfl rfl ?_
    refine x_iload_n dX2_gives_28 3 rfl rfl ?_
    refine x_iload dX2_gives_29 0 rfl ?_
    refine x_callV dX2_gives_31 (con_X2_can hN hGT hC (m := w.1) (s := s) (k := w.2.1) (by omega) hs hw.2.1 (fun e => by omega) (fun o => hT.2.2.1 o s)) (lw_V q1993 q1995 qs50 q101 q1996) (np := 3) (by decide +kernel) rfl (rcv_of vC_2 hN.1) ⟨Nat.le_of_ble_eq_true rfl, Nat.le_of_ble_eq_true rfl⟩ (Nat.le_of_ble_eq_true rfl) rfl (by decide) (by decide) (rS ?_) nI'
    refine x_if_ne (tgt := 39) dX2_gives_34 (by decide) (fun c1 => ?_) (fun c1 => ?_)
    · have c1 := bI_1 c1
      rw [serve_yes hq c1] at e1 e2
      refine x_aload_n dX2_gives_39 2 rfl rfl ?_
      refine x_iload_n dX2_gives_40 1 rfl rfl ?_
      refine x_callV dX2_gives_41 (con_X2_leaves hN (S := T) (m := w.1) (s := s) hGT hT hw2 ha) (lw_V q2037 q2039 qs61 q101 q2040) (np := 1) (by decide +kernel) rfl (rcv_of vC_2 hN.1) ⟨Nat.le_of_ble_eq_true rfl, Nat.le_of_ble_eq_true rfl⟩ (Nat.le_of_ble_eq_true rfl) rfl (by decide) (by decide) (rV fun σ7 h6 => ?_) nV'
      obtain ⟨M9, hAM9, hFM9, h0M9, hGM9⟩ : GP a ad σ M (noMore T w.1) σ7 := GP.tr hFN h0N h6
      rw [hnm] at hGM9
      refine x_aload_n dX2_gives_44 2 rfl rfl ?_
      refine x_iload_n dX2_gives_45 1 rfl rfl ?_
      refine x_iload_n dX2_gives_46 3 rfl rfl ?_
      refine x_iload dX2_gives_47 0 rfl ?_
      refine x_callV dX2_gives_49 (con_X2_has hAM9 (S := sRow T s ws) (m := w.1) (s := s) (k := w.2.1) (b := w.2.2) hGM9 hC (fun s2 hs2 => by
        rw [sRow_q]
        split
        · omega
        · exact hT.len hs2) (by omega) hs) (lw_V q1997 q1999 qs51 q101 q2000) (np := 3) (by decide +kernel) rfl (rcv_of vC_2 hAM9.1) ⟨Nat.le_of_ble_eq_true rfl, Nat.le_of_ble_eq_true rfl⟩ (Nat.le_of_ble_eq_true rfl) rfl (by decide) (by decide) (rV fun σ11 h10 => ?_) nV'
      obtain ⟨M13, hAM13, hFM13, h0M13, hGM13⟩ : GP a ad σ M (giveW (sRow T s ws) s w) σ11 := GP.tr hFM9 h0M9 h10
      refine x_iinc (i := 2) (q := 4) (v := nI (n + 1)) (L' := [(2, .int (nI (n + 1))), (4, .int (nI w.2.1)), (3, .int (nI w.1)), (0, .ref a), (1, .int (nI s))]) dX2_gives_52 rfl (nI_1 _) (by decide) rfl ?_
      refine x_goto (tgt := 2) dX2_gives_55 (by decide) ?_
      refine x_locs (L' := [(0, .ref a), (1, .int (nI s)), (2, .int (nI (n + 1)))]) [3, 4, 0] rfl ?_
      exact ih (n + 1) (giveW (sRow T s ws) s w) _ _ (by rw [show qu (giveW (sRow T s ws) s w) s = ws from qu_sRow (S := T)]; exact hws) (hT.next hs hq) hGM13 hAM13 hFM13 h0M13 e1 (by omega)
    · have c1 := bI_0 c1
      rw [serve_no hq c1] at e1 e2
      refine x_iload_n dX2_gives_37 4 rfl rfl ?_
      exact x_iret dX2_gives_38 rfl (⟨_, rfl, by rw [e2]; rfl, N, hN, hFN, h0N, by rw [e1]; exact hGT⟩)
set_option maxHeartbeats 4000000 in
set_option maxRecDepth 100000 in
theorem con_X2_comesToWait {l : Launch} {G : YG} {σ : AH} {a : Nat} {ad : Nat → Nat} {M : MS} {S : AS} {m s k : Nat} (hM : MAt σ a ad M) (hG : GR (M.1 0) S) (hI : IV S) (hm : tH S m = true) (hs : s < 8) (hn : aAt S m = none) : Con l yX2_comesToWait cX2_comesToWait 6 none G 1 0 0 [.ref a, .int (nI m), .int (nI s), .int (nI k)] σ (PV fun τ => GP a ad σ M (sRow S s (insW (m, k, hw S m s == 1) (qu S s))) τ) := by
  refine con_of (by decide) (Nat.le_of_ble_eq_true rfl) ?_
  refine x_locs (L' := [(0, .ref a), (1, .int (nI m)), (2, .int (nI s)), (3, .int (nI k))]) [0, 1, 2, 3] rfl ?_
  have hC := hI.c
  have hmc := hI.th hm
  have hm24 : m < 24 := by omega
  have hl7 := hI.len7 hs hm hn
  have hL : ∀ s, s < 8 → (qu S s).length ≤ 8 := fun s hs => hI.len hs
  have hrow : ∀ i w, (qu S s)[i]? = some w → M.1 0 (341 + 11 * s + (3 + i)) = nI w.1 := fun i w h => hG.2.2.2.2.2 s i w hs h
  have hmany : M.1 0 (341 + 11 * s + 2) = nI (qu S s).length := (hG.2.2.2.2.1 s hs).2.2
  have hst : ∀ w ∈ qu S s, w.1 < 24 ∧ w.2.2 = (hw S w.1 s == 1) := fun w h => by
    have := hI.w hs h
    have h2 := hI.th this.1
    exact ⟨by omega, this.2.2.2⟩
  obtain ⟨zr, hzr⟩ : ∃ zr, zr = qu S s := ⟨_, rfl⟩
  rw [← hzr] at hl7 hrow hmany hst
  obtain ⟨pp, hpp⟩ : ∃ pp, pp = posW (m, k, hw S m s == 1) zr := ⟨_, rfl⟩
  have hppl : pp ≤ zr.length := by rw [hpp]; exact posW_le
  have join : X l yX2_comesToWait cX2_comesToWait 6 none [] G (yroom 1 0 0) (yEnd G (yroom 1 0 0) (PV fun τ => GP a ad σ M (sRow S s (insW (m, k, hw S m s == 1) (qu S s))) τ)) 56 [(0, .ref a), (1, .int (nI m)), (2, .int (nI s)), (3, .int (nI k)), (4, .int (nI pp))] [] σ 0 0 := by
    refine x_aload_n dX2_comesToWait_56 0 rfl rfl ?_
    refine x_iload_n dX2_comesToWait_57 2 rfl rfl ?_
    refine x_iconst (v := nI 2) dX2_comesToWait_58 (by decide) ?_
    refine x_callV dX2_comesToWait_59 (con_X2_shelf hM (s := s) (w := 2) hs (by decide)) (lw_V q1989 q1991 qs49 q101 q1992) (np := 2) (by decide +kernel) rfl (rcv_of vC_2 hM.1) ⟨Nat.le_of_ble_eq_true rfl, Nat.le_of_ble_eq_true rfl⟩ (Nat.le_of_ble_eq_true rfl) rfl (by decide) (by decide) (rS ?_) nI'
    refine x_top (x' := nI zr.length) (hmany) ?_
    refine x_istore (i := 5) (L' := [(5, .int (nI zr.length)), (0, .ref a), (1, .int (nI m)), (2, .int (nI s)), (3, .int (nI k)), (4, .int (nI pp))]) dX2_comesToWait_62 (by decide) rfl ?_
    refine x_locs (L' := [(0, .ref a), (1, .int (nI m)), (2, .int (nI s)), (3, .int (nI k)), (4, .int (nI pp)), (5, .int (nI zr.length))]) [1, 2, 3, 4, 5, 0] rfl ?_
    suffices loop : ∀ (d : Nat) (τ : AH) (N : MS), pp + d ≤ zr.length → MAt τ a ad N → MF a ad σ τ → M0 M N → (∀ j, (j < 341 + 11 * s + 3 + (pp + d) + 1 ∨ 341 + 11 * s + 3 + zr.length < j) → N.1 0 j = M.1 0 j) → (∀ i, pp + d < i → i ≤ zr.length → N.1 0 (341 + 11 * s + (3 + i)) = M.1 0 (341 + 11 * s + (3 + (i - 1)))) → X l yX2_comesToWait cX2_comesToWait 6 none [] G (yroom 1 0 0) (yEnd G (yroom 1 0 0) (PV fun τ => GP a ad σ M (sRow S s (insW (m, k, hw S m s == 1) (qu S s))) τ)) 64 [(0, .ref a), (1, .int (nI m)), (2, .int (nI s)), (3, .int (nI k)), (4, .int (nI pp)), (5, .int (nI (pp + d)))] [] τ 0 0 from by
      have := loop (zr.length - pp) σ M (by omega) hM MF.rf M0.rf (fun _ _ => rfl) (fun i h1 h2 => by omega)
      rw [show pp + (zr.length - pp) = zr.length by omega] at this
      exact this
    intro d
    induction d with
    | zero =>
      intro τ N hd hN hFN h0N hg hr
      refine x_iload dX2_comesToWait_64 5 rfl ?_
      refine x_iload dX2_comesToWait_66 4 rfl ?_
      refine x_icmp_le (tgt := 97) dX2_comesToWait_68 (by decide) (fun _ => ?_) (fun h_ => absurd ((nI_leI (by omega) (by omega)).mpr (by omega)) h_)
      refine x_aload_n dX2_comesToWait_97 0 rfl rfl ?_
      refine x_iload_n dX2_comesToWait_98 2 rfl rfl ?_
      refine x_iconst (v := nI 3) dX2_comesToWait_99 (by decide) ?_
      refine x_iload dX2_comesToWait_100 4 rfl ?_
      refine x_iadd dX2_comesToWait_102 ?_
      refine x_top (x' := nI (3 + pp)) (nI_add _ _) ?_
      refine x_iload_n dX2_comesToWait_103 1 rfl rfl ?_
      refine x_callV dX2_comesToWait_104 (con_X2_shelves hN (s := s) (w := 3 + pp) (v := nI m) hs (by omega)) (lw_V q2005 q2007 qs53 q101 q2008) (np := 3) (by decide +kernel) rfl (rcv_of vC_2 hN.1) ⟨Nat.le_of_ble_eq_true rfl, Nat.le_of_ble_eq_true rfl⟩ (Nat.le_of_ble_eq_true rfl) rfl (by decide) (by decide) (rV fun σ2 g1 => ?_) nV'
      refine x_aload_n dX2_comesToWait_107 0 rfl rfl ?_
      refine x_iload_n dX2_comesToWait_108 2 rfl rfl ?_
      refine x_iconst (v := nI 2) dX2_comesToWait_109 (by decide) ?_
      refine x_aload_n dX2_comesToWait_110 0 rfl rfl ?_
      refine x_iload_n dX2_comesToWait_111 2 rfl rfl ?_
      refine x_iconst (v := nI 2) dX2_comesToWait_112 (by decide) ?_
      refine x_callV dX2_comesToWait_113 (con_X2_shelf g1.1 (s := s) (w := 2) hs (by decide)) (lw_V q1989 q1991 qs49 q101 q1992) (np := 2) (by decide +kernel) rfl (rcv_of vC_2 g1.1.1) ⟨Nat.le_of_ble_eq_true rfl, Nat.le_of_ble_eq_true rfl⟩ (Nat.le_of_ble_eq_true rfl) rfl (by decide) (by decide) (rS ?_) nI'
      refine x_top (x' := nI zr.length) ((pk_un (by omega)).trans ((hg _ (by omega)).trans hmany)) ?_
      refine x_iconst (v := nI 1) dX2_comesToWait_116 (by decide) ?_
      refine x_iadd dX2_comesToWait_117 ?_
      refine x_top (x' := nI (zr.length + 1)) (nI_add _ _) ?_
      refine x_callV dX2_comesToWait_118 (con_X2_shelves g1.1 (s := s) (w := 2) (v := nI (zr.length + 1)) hs (by decide)) (lw_V q2005 q2007 qs53 q101 q2008) (np := 3) (by decide +kernel) rfl (rcv_of vC_2 g1.1.1) ⟨Nat.le_of_ble_eq_true rfl, Nat.le_of_ble_eq_true rfl⟩ (Nat.le_of_ble_eq_true rfl) rfl (by decide) (by decide) (rV fun σ5 g2 => ?_) nV'
      refine x_aload_n dX2_comesToWait_121 0 rfl rfl ?_
      refine x_iload_n dX2_comesToWait_122 1 rfl rfl ?_
      refine x_iconst (v := nI 1) dX2_comesToWait_123 (by decide) ?_
      refine x_iload_n dX2_comesToWait_124 2 rfl rfl ?_
      refine x_callV dX2_comesToWait_125 (con_X2_lays g2.1 (m := m) (w := 1) (v := nI s) hm24 (by decide)) (lw_V q1951 q1953 qs42 q101 q1954) (np := 3) (by decide +kernel) rfl (rcv_of vC_2 g2.1.1) ⟨Nat.le_of_ble_eq_true rfl, Nat.le_of_ble_eq_true rfl⟩ (Nat.le_of_ble_eq_true rfl) rfl (by decide) (by decide) (rV fun σ7 g3 => ?_) nV'
      refine x_aload_n dX2_comesToWait_128 0 rfl rfl ?_
      refine x_iload_n dX2_comesToWait_129 1 rfl rfl ?_
      refine x_iconst (v := nI 2) dX2_comesToWait_130 (by decide) ?_
      refine x_iload_n dX2_comesToWait_131 3 rfl rfl ?_
      refine x_callV dX2_comesToWait_132 (con_X2_lays g3.1 (m := m) (w := 2) (v := nI k) hm24 (by decide)) (lw_V q1951 q1953 qs42 q101 q1954) (np := 3) (by decide +kernel) rfl (rcv_of vC_2 g3.1.1) ⟨Nat.le_of_ble_eq_true rfl, Nat.le_of_ble_eq_true rfl⟩ (Nat.le_of_ble_eq_true rfl) rfl (by decide) (by decide) (rV fun σ9 g4 => ?_) nV'
      have hend : GR ((mG1 (mG1 (mG1 (mG1 N (341 + 11 * s + (3 + pp)) (nI m)) (341 + 11 * s + 2) (nI (zr.length + 1))) (5 + 6 * m + 1) (nI s)) (5 + 6 * m + 2) (nI k)).1 0) (sRow S s (insW (m, k, hw S m s == 1) (qu S s))) := by
        show GR (upd (upd (upd (upd (N.1 0) (341 + 11 * s + (3 + pp)) (nI m)) (341 + 11 * s + 2) (nI (zr.length + 1))) (5 + 6 * m + 1) (nI s)) (5 + 6 * m + 2) (nI k)) _
        obtain ⟨ia, ik⟩ := ins_at (w := (m, k, hw S m s == 1)) hs hn
        refine GR.row hG hC hL hm24 hmc hs (by rw [insW_len, ← hzr]; omega) ?_ ?_ ?_ ?_ ?_
        · intro j hj h1 h2
          rw [pk_un h2, pk_un h1, pk_un (by omega), pk_un (by omega)]
          exact hg j (by omega)
        · rw [pk_un (by omega), pk_un (by omega), pk_us, insW_len, ← hzr]
        · intro i w hi
          have hil := (List.getElem?_eq_some_iff.mp hi).1
          rw [insW_len, ← hzr] at hil
          rw [pk_un (by omega), pk_un (by omega), pk_un (by omega)]
          rw [insW_get, ← hzr, ← hpp] at hi
          by_cases h1 : i < pp
          · rw [if_pos h1] at hi
            rw [pk_un (by omega), hg _ (by omega)]
            exact hrow i w hi
          · rw [if_neg h1] at hi
            by_cases h2 : i = pp
            · rw [if_pos h2] at hi
              cases hi
              rw [h2, pk_us]
            · rw [if_neg h2] at hi
              rw [pk_un (by omega), hr i (by omega) (by omega)]
              exact hrow (i - 1) w hi
        · intro _
          rw [pk_un (by omega), pk_us, pk_us, atI_some ia, ik]
          exact ⟨rfl, rfl⟩
        · intro m' hne s' _
          exact ins_wish (w := (m, k, hw S m s == 1)) hne
      exact x_vret dX2_comesToWait_135 rfl (⟨rfl, _, g4.1, (((hFN.tr g1.2).tr g2.2).tr g3.2).tr g4.2, (((h0N.tr M0.g1).tr M0.g1).tr M0.g1).tr M0.g1, hend⟩)
    | succ d ih =>
      intro τ N hd hN hFN h0N hg hr
      refine x_iload dX2_comesToWait_64 5 rfl ?_
      refine x_iload dX2_comesToWait_66 4 rfl ?_
      refine x_icmp_le (tgt := 97) dX2_comesToWait_68 (by decide) (fun h_ => absurd h_ (fun h => absurd (nLe (by omega) (by omega) h) (by omega))) (fun _ => ?_)
      refine x_aload_n dX2_comesToWait_71 0 rfl rfl ?_
      refine x_iload_n dX2_comesToWait_72 2 rfl rfl ?_
      refine x_iconst (v := nI 3) dX2_comesToWait_73 (by decide) ?_
      refine x_iload dX2_comesToWait_74 5 rfl ?_
      refine x_iadd dX2_comesToWait_76 ?_
      refine x_top (x' := nI (3 + (pp + d + 1))) (nI_add _ _) ?_
      refine x_aload_n dX2_comesToWait_77 0 rfl rfl ?_
      refine x_iload_n dX2_comesToWait_78 2 rfl rfl ?_
      refine x_iconst (v := nI 3) dX2_comesToWait_79 (by decide) ?_
      refine x_iload dX2_comesToWait_80 5 rfl ?_
      refine x_iadd dX2_comesToWait_82 ?_
      refine x_top (x' := nI (3 + (pp + d + 1))) (nI_add _ _) ?_
      refine x_iconst (v := nI 1) dX2_comesToWait_83 (by decide) ?_
      refine x_isub dX2_comesToWait_84 ?_
      refine x_top (x' := nI (3 + (pp + d))) ((pk_sub (by omega)).trans (congrArg nI (by omega))) ?_
      refine x_callV dX2_comesToWait_85 (con_X2_shelf hN (s := s) (w := 3 + (pp + d)) hs (by omega)) (lw_V q1989 q1991 qs49 q101 q1992) (np := 2) (by decide +kernel) rfl (rcv_of vC_2 hN.1) ⟨Nat.le_of_ble_eq_true rfl, Nat.le_of_ble_eq_true rfl⟩ (Nat.le_of_ble_eq_true rfl) rfl (by decide) (by decide) (rS ?_) nI'
      refine x_top (x' := M.1 0 (341 + 11 * s + (3 + (pp + d)))) (hg _ (by omega)) ?_
      refine x_callV dX2_comesToWait_88 (con_X2_shelves hN (s := s) (w := 3 + (pp + d + 1)) (v := M.1 0 (341 + 11 * s + (3 + (pp + d)))) hs (by omega)) (lw_V q2005 q2007 qs53 q101 q2008) (np := 3) (by decide +kernel) rfl (rcv_of vC_2 hN.1) ⟨Nat.le_of_ble_eq_true rfl, Nat.le_of_ble_eq_true rfl⟩ (Nat.le_of_ble_eq_true rfl) rfl (by decide) (by decide) (rV fun σ12 g1 => ?_) nV'
      refine x_iinc (i := 5) (q := 5) (v := nI (pp + d)) (L' := [(5, .int (nI (pp + d))), (0, .ref a), (1, .int (nI m)), (2, .int (nI s)), (3, .int (nI k)), (4, .int (nI pp))]) dX2_comesToWait_91 rfl (pk_m1 _) (by decide) rfl ?_
      refine x_goto (tgt := 64) dX2_comesToWait_94 (by decide) ?_
      refine x_locs (L' := [(0, .ref a), (1, .int (nI m)), (2, .int (nI s)), (3, .int (nI k)), (4, .int (nI pp)), (5, .int (nI (pp + d)))]) [1, 2, 3, 4, 5, 0] rfl ?_
      refine ih _ _ (by omega) g1.1 (hFN.tr g1.2) (h0N.tr M0.g1) (fun j hj => ?_) (fun i h1 h2 => ?_)
      · show upd (N.1 0) _ _ j = _
        rw [pk_un (by omega)]; exact hg j (by omega)
      · show upd (N.1 0) _ _ _ = _
        by_cases e : i = pp + d + 1
        · subst e; rw [pk_us]; rfl
        · rw [pk_un (by omega)]; exact hr i (by omega) h2
  refine x_aload_n dX2_comesToWait_0 0 rfl rfl ?_
  refine x_iload_n dX2_comesToWait_1 2 rfl rfl ?_
  refine x_iconst (v := nI 2) dX2_comesToWait_2 (by decide) ?_
  refine x_callV dX2_comesToWait_3 (con_X2_shelf hM (s := s) (w := 2) hs (by decide)) (lw_V q1989 q1991 qs49 q101 q1992) (np := 2) (by decide +kernel) rfl (rcv_of vC_2 hM.1) ⟨Nat.le_of_ble_eq_true rfl, Nat.le_of_ble_eq_true rfl⟩ (Nat.le_of_ble_eq_true rfl) rfl (by decide) (by decide) (rS ?_) nI'
  refine x_top (x' := nI zr.length) (hmany) ?_
  refine x_istore (i := 4) (L' := [(4, .int (nI zr.length)), (0, .ref a), (1, .int (nI m)), (2, .int (nI s)), (3, .int (nI k))]) dX2_comesToWait_6 (by decide) rfl ?_
  refine x_aload_n dX2_comesToWait_8 1 rfl rfl ?_
  refine x_iload_n dX2_comesToWait_9 2 rfl rfl ?_
  refine x_iload_n dX2_comesToWait_10 3 rfl rfl ?_
  refine x_callV dX2_comesToWait_11 (con_X2_lock hM (m := m) (s := s) hm24 hs) (lw_V q1977 q1979 qs46 q101 q1980) (np := 2) (by decide +kernel) rfl (rcv_of vC_2 hM.1) ⟨Nat.le_of_ble_eq_true rfl, Nat.le_of_ble_eq_true rfl⟩ (Nat.le_of_ble_eq_true rfl) rfl (by decide) (by decide) (rS ?_) nI'
  refine x_top (x' := nI (hw S m s)) (hG.hwE hm24 hs) ?_
  refine x_iconst (v := nI 1) dX2_comesToWait_14 (by decide) ?_
  have hw2 := hI.2.2.1 m s
  refine x_icmp_ne (tgt := 56) dX2_comesToWait_15 (by decide) (fun c1 => ?_) (fun c1 => ?_)
  · have c1 := nNe (by omega) (by omega) c1
    refine x_locs (L' := [(0, .ref a), (1, .int (nI m)), (2, .int (nI s)), (3, .int (nI k)), (4, .int (nI zr.length))]) [1, 2, 3, 4, 0] rfl ?_
    have e9 : pp = zr.length := by
      rw [hpp]; unfold posW
      rw [if_neg (by simpa using c1)]
    rw [← e9]
    exact join
  · have c1 := nEq (by omega) (by omega) c1
    have e9 : pp = (zr.takeWhile (fun x => x.2.2)).length := by
      rw [hpp]; unfold posW
      rw [if_pos (by simpa using c1)]
    refine x_iconst (v := nI 0) dX2_comesToWait_18 (by decide) ?_
    refine x_istore (i := 4) (L' := [(4, .int (nI 0)), (0, .ref a), (1, .int (nI m)), (2, .int (nI s)), (3, .int (nI k))]) dX2_comesToWait_19 (by decide) rfl ?_
    refine x_locs (L' := [(0, .ref a), (1, .int (nI m)), (2, .int (nI s)), (3, .int (nI k)), (4, .int (nI 0))]) [1, 2, 3, 4, 0] rfl ?_
    suffices loop : ∀ (d p : Nat), p + d = zr.length → (∀ i x, i < p → zr[i]? = some x → x.2.2 = true) → X l yX2_comesToWait cX2_comesToWait 6 none [] G (yroom 1 0 0) (yEnd G (yroom 1 0 0) (PV fun τ => GP a ad σ M (sRow S s (insW (m, k, hw S m s == 1) (qu S s))) τ)) 21 [(0, .ref a), (1, .int (nI m)), (2, .int (nI s)), (3, .int (nI k)), (4, .int (nI p))] [] σ 0 0 from loop zr.length 0 (by omega) (fun i x h => by omega)
    intro d
    induction d with
    | zero =>
      intro p hd hp
      refine x_iload dX2_comesToWait_21 4 rfl ?_
      refine x_aload_n dX2_comesToWait_23 0 rfl rfl ?_
      refine x_iload_n dX2_comesToWait_24 2 rfl rfl ?_
      refine x_iconst (v := nI 2) dX2_comesToWait_25 (by decide) ?_
      refine x_callV dX2_comesToWait_26 (con_X2_shelf hM (s := s) (w := 2) hs (by decide)) (lw_V q1989 q1991 qs49 q101 q1992) (np := 2) (by decide +kernel) rfl (rcv_of vC_2 hM.1) ⟨Nat.le_of_ble_eq_true rfl, Nat.le_of_ble_eq_true rfl⟩ (Nat.le_of_ble_eq_true rfl) rfl (by decide) (by decide) (rS ?_) nI'
      refine x_top (x' := nI zr.length) (hmany) ?_
      refine x_icmp_ge (tgt := 56) dX2_comesToWait_29 (by decide) (fun _ => ?_) (fun h_ => absurd ((nI_leI (by omega) (by omega)).mpr (by omega)) h_)
      have e8 : p = pp := by rw [e9]; exact (tw_len (by omega) hp (fun x hx => by have := (List.getElem?_eq_some_iff.mp hx).1; omega)).symm
      rw [e8]
      exact join
    | succ d ih =>
      intro p hd hp
      obtain ⟨x, hx⟩ : ∃ x, zr[p]? = some x := ⟨_, List.getElem?_eq_getElem (by omega)⟩
      obtain ⟨hx24, hxs⟩ := hst x (List.mem_of_getElem? hx)
      have hx2 := hI.2.2.1 x.1 s
      refine x_iload dX2_comesToWait_21 4 rfl ?_
      refine x_aload_n dX2_comesToWait_23 0 rfl rfl ?_
      refine x_iload_n dX2_comesToWait_24 2 rfl rfl ?_
      refine x_iconst (v := nI 2) dX2_comesToWait_25 (by decide) ?_
      refine x_callV dX2_comesToWait_26 (con_X2_shelf hM (s := s) (w := 2) hs (by decide)) (lw_V q1989 q1991 qs49 q101 q1992) (np := 2) (by decide +kernel) rfl (rcv_of vC_2 hM.1) ⟨Nat.le_of_ble_eq_true rfl, Nat.le_of_ble_eq_true rfl⟩ (Nat.le_of_ble_eq_true rfl) rfl (by decide) (by decide) (rS ?_) nI'
      refine x_top (x' := nI zr.length) (hmany) ?_
      refine x_icmp_ge (tgt := 56) dX2_comesToWait_29 (by decide) (fun h_ => absurd h_ (fun h => absurd (nLe (by omega) (by omega) h) (by omega))) (fun _ => ?_)
      refine x_aload_n dX2_comesToWait_32 0 rfl rfl ?_
      refine x_aload_n dX2_comesToWait_33 0 rfl rfl ?_
      refine x_iload_n dX2_comesToWait_34 2 rfl rfl ?_
      refine x_iconst (v := nI 3) dX2_comesToWait_35 (by decide) ?_
      refine x_iload dX2_comesToWait_36 4 rfl ?_
      refine x_iadd dX2_comesToWait_38 ?_
      refine x_top (x' := nI (3 + p)) (nI_add _ _) ?_
      refine x_callV dX2_comesToWait_39 (con_X2_shelf hM (s := s) (w := 3 + p) hs (by omega)) (lw_V q1989 q1991 qs49 q101 q1992) (np := 2) (by decide +kernel) rfl (rcv_of vC_2 hM.1) ⟨Nat.le_of_ble_eq_true rfl, Nat.le_of_ble_eq_true rfl⟩ (Nat.le_of_ble_eq_true rfl) rfl (by decide) (by decide) (rS ?_) nI'
      refine x_top (x' := nI x.1) (hrow p x hx) ?_
      refine x_iload_n dX2_comesToWait_42 2 rfl rfl ?_
      refine x_callV dX2_comesToWait_43 (con_X2_lock hM (m := x.1) (s := s) hx24 hs) (lw_V q1977 q1979 qs46 q101 q1980) (np := 2) (by decide +kernel) rfl (rcv_of vC_2 hM.1) ⟨Nat.le_of_ble_eq_true rfl, Nat.le_of_ble_eq_true rfl⟩ (Nat.le_of_ble_eq_true rfl) rfl (by decide) (by decide) (rS ?_) nI'
      refine x_top (x' := nI (hw S x.1 s)) (hG.hwE hx24 hs) ?_
      refine x_iconst (v := nI 1) dX2_comesToWait_46 (by decide) ?_
      refine x_icmp_ne (tgt := 56) dX2_comesToWait_47 (by decide) (fun c2 => ?_) (fun c2 => ?_)
      · have c2 := nNe (by omega) (by omega) c2
        refine x_locs (L' := [(0, .ref a), (1, .int (nI m)), (2, .int (nI s)), (3, .int (nI k)), (4, .int (nI p))]) [0, 1, 2, 3, 4] rfl ?_
        have e8 : p = pp := by
          rw [e9]
          refine (tw_len (by omega) hp (fun y hy => ?_)).symm
          rw [hx] at hy
          cases hy
          rw [hxs]
          simpa using c2
        rw [e8]
        exact join
      · have c2 := nEq (by omega) (by omega) c2
        refine x_iinc (i := 4) (q := 4) (v := nI (p + 1)) (L' := [(4, .int (nI (p + 1))), (0, .ref a), (1, .int (nI m)), (2, .int (nI s)), (3, .int (nI k))]) dX2_comesToWait_50 rfl (nI_1 _) (by decide) rfl ?_
        refine x_goto (tgt := 21) dX2_comesToWait_53 (by decide) ?_
        refine x_locs (L' := [(0, .ref a), (1, .int (nI m)), (2, .int (nI s)), (3, .int (nI k)), (4, .int (nI (p + 1)))]) [1, 2, 3, 4, 0] rfl ?_
        refine ih (p + 1) (by omega) (fun i y hi hy => ?_)
        by_cases e : i = p
        · subst e
          rw [hx] at hy
          cases hy
          rw [hxs, c2]
          rfl
        · exact hp i y (by omega) hy
