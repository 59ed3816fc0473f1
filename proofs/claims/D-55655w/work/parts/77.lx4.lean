set_option maxRecDepth 100000
/-- how she holds, the first i of them let go -/
def clrT (S : AS) (m i : Nat) : AS := sHw S (fset (hw S) m (fun s => if s < i then 0 else hw S m s))
theorem clrT_0 {S : AS} {m : Nat} : clrT S m 0 = S := by
  unfold clrT sHw
  have : fset (hw S) m (fun s => if s < 0 then 0 else hw S m s) = hw S := by
    funext x
    by_cases e : x = m
    · subst e; rw [fset_s]; funext s; rw [if_neg (Nat.not_lt_zero s)]
    · rw [fset_n e]
  rw [this]
theorem clrT_n {S : AS} {m i m' : Nat} (h : m' ≠ m) : hw (clrT S m i) m' = hw S m' := fset_n h
theorem clrT_s {S : AS} {m i s : Nat} : hw (clrT S m i) m s = if s < i then 0 else hw S m s := by
  show fset (hw S) m _ m s = _
  rw [fset_s]
theorem vp_z (b : Bool) : vp_nar .boolean (bI b) = bI b := by cases b <;> rfl
theorem BI_updF {g : Nat → Int32} {h : Nat → Bool} {i : Nat} (hg : ∀ j, j < i → g j = bI (h j)) : ∀ j, j < i + 1 → upd g i (bI (h i)) j = bI (h j) := fun j hj => by
  unfold upd
  split
  · rename_i e; rw [e]
  · rename_i e; exact hg j (by omega)
set_option maxHeartbeats 4000000 in
set_option maxRecDepth 100000 in
theorem con_X1_letsAllGo {l : Launch} {G : YG} {σ : AH} {a : Nat} {ad : Nat → Nat} {N : Nat → NL} {mc : Nat → Int32} {S : AS} {m ft : Nat} (hL : LD σ a ad N mc S) (hI : IV S) (hm : m < 24) (hf : FT σ ft) : Con l yX1_letsAllGo cX1_letsAllGo 7 (some FieldType.int) G 8 10 53 [.ref a, .int (nI m), .ref ft] σ (PI fun z τ => z = nI (letAll S m).2 ∧ PL a ad N σ (letAll S m).1 τ) := by
  refine con_of (by decide) (Nat.le_of_ble_eq_true rfl) ?_
  refine x_locs (L' := [(0, .ref a), (1, .int (nI m)), (2, .ref ft)]) [0, 1, 2] rfl ?_
  have ho := hL.o
  have hL0 := hL
  have hhw : hw (noMore S m) = hw S := noMore_hw.1
  have hI1 : IV (noMore S m) := hI.iNoMore
  have h2 := hI.2.2.1 m
  have hIc : IV (clearHw (noMore S m) m) := hI1.clear (noMore_self hI.uq)
  have hlenS : ∀ s, s < 8 → (qu S s).length ≤ 8 := fun s hs => hI.len hs
  have tail : ∀ (R0 : AS × Nat) (τ : AH) (N2 : Nat → NL) (mc2 : Nat → Int32) (hb : Nat) (g : Nat → Int32) (k n : Nat), IV R0.1 → letAll S m = serveUp (fun k => !(hw S m k == 0)) R0 8 → LD τ a ad N2 mc2 R0.1 → Fr (FP a ad N) σ τ → (∀ q, FP a ad N2 q → FP a ad N q ∨ σ q = none) → τ hb = some (.inl (2, 8, .inl g)) → (∀ j, j < 8 → g j = bI (!(hw S m j == 0))) → X l yX1_letsAllGo cX1_letsAllGo 7 (some FieldType.int) [] G (yroom 8 10 53) (yEnd G (yroom 8 10 53) (PI fun z τ => z = nI (letAll S m).2 ∧ PL a ad N σ (letAll S m).1 τ)) 76 [(0, .ref a), (1, .int (nI m)), (2, .ref ft), (3, .int (atV S m)), (4, .ref hb)] [.int (nI R0.2)] τ k n := by
    intro R0 τ N2 mc2 hb g k n hIR hlet hL hF hQ hbc hg
    rw [hlet]
    refine x_istore (i := 5) (L' := [(5, .int (nI R0.2)), (0, .ref a), (1, .int (nI m)), (2, .ref ft), (3, .int (atV S m)), (4, .ref hb)]) dX1_letsAllGo_76 (by decide) rfl ?_
    refine x_iconst (v := nI 0) dX1_letsAllGo_78 (by decide) ?_
    refine x_istore (i := 6) (L' := [(6, .int (nI 0)), (5, .int (nI R0.2)), (0, .ref a), (1, .int (nI m)), (2, .ref ft), (3, .int (atV S m)), (4, .ref hb)]) dX1_letsAllGo_79 (by decide) rfl ?_
    refine x_locs (L' := [(0, .ref a), (1, .int (nI m)), (2, .ref ft), (4, .ref hb), (5, .int (nI R0.2)), (6, .int (nI 0))]) [2, 3, 4, 6, 1, 0] rfl ?_
    suffices loop : ∀ (d i : Nat) (τ : AH) (N2 : Nat → NL) (mc2 : Nat → Int32), i + d = 8 → LD τ a ad N2 mc2 (serveUp (fun k => !(hw S m k == 0)) R0 i).1 → Fr (FP a ad N) σ τ → (∀ q, FP a ad N2 q → FP a ad N q ∨ σ q = none) → τ hb = some (.inl (2, 8, .inl g)) → X l yX1_letsAllGo cX1_letsAllGo 7 (some FieldType.int) [] G (yroom 8 10 53) (yEnd G (yroom 8 10 53) (PI fun z τ => z = nI (serveUp (fun k => !(hw S m k == 0)) R0 8).2 ∧ PL a ad N σ (serveUp (fun k => !(hw S m k == 0)) R0 8).1 τ)) 81 [(0, .ref a), (1, .int (nI m)), (2, .ref ft), (4, .ref hb), (5, .int (nI (serveUp (fun k => !(hw S m k == 0)) R0 i).2)), (6, .int (nI i))] [] τ k n from loop 8 0 τ N2 mc2 rfl hL hF hQ hbc
    intro d
    induction d with
    | zero =>
      intro i τ N2 mc2 hi hL hF hQ hbc
      have hi8 : i = 8 := by omega
      subst hi8
      refine x_iload dX1_letsAllGo_81 5 rfl ?_
      refine x_bipush (v := nI 8) dX1_letsAllGo_83 (by decide) ?_
      refine x_icmp_ge (tgt := 118) dX1_letsAllGo_85 (by decide) (fun _ => ?_) (fun h_ => absurd (by decide) h_)
      refine x_iload dX1_letsAllGo_118 4 rfl ?_
      exact x_iret dX1_letsAllGo_120 rfl (⟨_, rfl, rfl, ⟨_, _, hL, hF, hQ⟩⟩)
    | succ d ih =>
      intro i τ N2 mc2 hi hL hF hQ hbc
      have hi8 : i < 8 := by omega
      have ho := hL.o
      have hIi := IV.iServeUp (hd := (fun k => !(hw S m k == 0))) hIR i (by omega)
      have hfi := hf.frL hL0 hF
      refine x_iload dX1_letsAllGo_81 5 rfl ?_
      refine x_bipush (v := nI 8) dX1_letsAllGo_83 (by decide) ?_
      refine x_icmp_ge (tgt := 118) dX1_letsAllGo_85 (by decide) (fun h_ => absurd h_ (fun h => absurd (nLe (by omega) (by omega) h) (by omega))) (fun _ => ?_)
      refine x_iload dX1_letsAllGo_88 4 rfl ?_
      refine x_aload dX1_letsAllGo_90 3 rfl ?_
      refine x_iload dX1_letsAllGo_92 5 rfl ?_
      refine x_zald (N := 8) (j := i) (v := bI (!(hw S m i == 0))) dX1_letsAllGo_94 hbc rfl hi8 (by decide) (hg i hi8) ?_
      refine x_if_eq (tgt := 108) dX1_letsAllGo_95 (by decide) (fun c1 => ?_) (fun c1 => ?_)
      · have c1 : (!(hw S m i == 0)) = false := bI_0 c1
        have hsu : serveUp (fun k => !(hw S m k == 0)) R0 (i + 1) = serveUp (fun k => !(hw S m k == 0)) R0 i := if_neg (by show ¬ (!(hw S m i == 0)) = true; rw [c1]; exact fun z => by cases z)
        refine x_iconst (v := nI 0) dX1_letsAllGo_108 (by decide) ?_
        refine x_iadd dX1_letsAllGo_109 ?_
        refine x_top (x' := nI ((serveUp (fun k => !(hw S m k == 0)) R0 i).2 + 0)) (nI_add _ _) ?_
        refine x_istore (i := 5) (L' := [(5, .int (nI ((serveUp (fun k => !(hw S m k == 0)) R0 i).2 + 0))), (0, .ref a), (1, .int (nI m)), (2, .ref ft), (4, .ref hb), (6, .int (nI i))]) dX1_letsAllGo_110 (by decide) rfl ?_
        refine x_iinc (i := 6) (q := 5) (v := nI (i + 1)) (L' := [(6, .int (nI (i + 1))), (5, .int (nI ((serveUp (fun k => !(hw S m k == 0)) R0 i).2 + 0))), (0, .ref a), (1, .int (nI m)), (2, .ref ft), (4, .ref hb)]) dX1_letsAllGo_112 rfl (nI_1 _) (by decide) rfl ?_
        refine x_goto (tgt := 81) dX1_letsAllGo_115 (by decide) ?_
        refine x_locs (L' := [(0, .ref a), (1, .int (nI m)), (2, .ref ft), (4, .ref hb), (5, .int (nI ((serveUp (fun k => !(hw S m k == 0)) R0 i).2 + 0))), (6, .int (nI (i + 1)))]) [2, 3, 4, 5, 1, 0] rfl ?_
        have := ih (i + 1) τ N2 mc2 (by omega) (by rw [hsu]; exact hL) hF hQ hbc
        rw [hsu] at this
        exact this
      · have c1 : (!(hw S m i == 0)) = true := bI_1 c1
        have hsu : serveUp (fun k => !(hw S m k == 0)) R0 (i + 1) = ((serve (serveUp (fun k => !(hw S m k == 0)) R0 i).1 i).1, (serveUp (fun k => !(hw S m k == 0)) R0 i).2 + (serve (serveUp (fun k => !(hw S m k == 0)) R0 i).1 i).2) := if_pos c1
        refine x_aload_n dX1_letsAllGo_98 0 rfl rfl ?_
        refine x_iload dX1_letsAllGo_99 5 rfl ?_
        refine x_aload_n dX1_letsAllGo_101 2 rfl rfl ?_
        refine x_callV dX1_letsAllGo_102 (con_X1_serves hL hIi hi8 hfi) (lw_V q1339 q1341 qs25 q86 q1342) (np := 2) (by decide +kernel) rfl (rcv_of vC_1 ho) ⟨Nat.le_of_ble_eq_true rfl, Nat.le_of_ble_eq_true rfl⟩ (Nat.le_of_ble_eq_true rfl) rfl (Nat.zero_le _) (Nat.zero_le _) (rI fun z σ2 h1 => ?_) nI'
        obtain ⟨hz, N3, mc3, hL3, hF3, hQ3⟩ := h1
        refine x_top (x' := nI (serve (serveUp (fun k => !(hw S m k == 0)) R0 i).1 i).2) (hz) ?_
        have hbc3 : σ2 hb = _ := hF3.1 _ _ hbc (hL.not hbc rfl)
        refine x_goto (tgt := 109) dX1_letsAllGo_105 (by decide) ?_
        refine x_iadd dX1_letsAllGo_109 ?_
        refine x_top (x' := nI ((serveUp (fun k => !(hw S m k == 0)) R0 i).2 + ((serve (serveUp (fun k => !(hw S m k == 0)) R0 i).1 i).2))) (nI_add _ _) ?_
        refine x_istore (i := 5) (L' := [(5, .int (nI ((serveUp (fun k => !(hw S m k == 0)) R0 i).2 + ((serve (serveUp (fun k => !(hw S m k == 0)) R0 i).1 i).2)))), (0, .ref a), (1, .int (nI m)), (2, .ref ft), (4, .ref hb), (6, .int (nI i))]) dX1_letsAllGo_110 (by decide) rfl ?_
        refine x_iinc (i := 6) (q := 5) (v := nI (i + 1)) (L' := [(6, .int (nI (i + 1))), (5, .int (nI ((serveUp (fun k => !(hw S m k == 0)) R0 i).2 + ((serve (serveUp (fun k => !(hw S m k == 0)) R0 i).1 i).2)))), (0, .ref a), (1, .int (nI m)), (2, .ref ft), (4, .ref hb)]) dX1_letsAllGo_112 rfl (nI_1 _) (by decide) rfl ?_
        refine x_goto (tgt := 81) dX1_letsAllGo_115 (by decide) ?_
        refine x_locs (L' := [(0, .ref a), (1, .int (nI m)), (2, .ref ft), (4, .ref hb), (5, .int (nI ((serveUp (fun k => !(hw S m k == 0)) R0 i).2 + ((serve (serveUp (fun k => !(hw S m k == 0)) R0 i).1 i).2)))), (6, .int (nI (i + 1)))]) [2, 3, 4, 5, 1, 0] rfl ?_
        have := ih (i + 1) σ2 N3 mc3 (by omega) (by rw [hsu]; exact hL3) (hF.tr hF3 hQ) (fun q hq => (hQ3 q hq).elim (hQ q) (fun z => Or.inr (hF.nn z))) hbc3
        rw [hsu] at this
        exact this
  refine x_aload_n dX1_letsAllGo_0 0 rfl rfl ?_
  refine x_iload_n dX1_letsAllGo_1 1 rfl rfl ?_
  refine x_callV dX1_letsAllGo_2 (con_X1_waitsNoMore hL hI hm) (lw_V q1232 q1234 qs23 q86 q1235) (np := 1) (by decide +kernel) rfl (rcv_of vC_1 ho) ⟨Nat.le_of_ble_eq_true rfl, Nat.le_of_ble_eq_true rfl⟩ (Nat.le_of_ble_eq_true rfl) rfl (by omega) (by omega) (rI fun z σ3 h0 => ?_) nI'
  obtain ⟨hz, N1, mc1, hL, hF, hQ⟩ := h0
  have ho := hL.o
  refine x_top (x' := (atV S m)) (hz) ?_
  refine x_istore_n (i := 3) (L' := [(3, .int (atV S m)), (0, .ref a), (1, .int (nI m)), (2, .ref ft)]) dX1_letsAllGo_5 rfl (by decide) rfl ?_
  refine x_bipush (v := nI 8) dX1_letsAllGo_6 (by decide) ?_
  refine x_newz (N := 8) dX1_letsAllGo_8 q1355 rfl (by first | omega | decide) (by omega) (by omega) (fun hb σ4 hn5 hb6 hc7 hu8 => ?_)
  have ho := ro_new hn5 hu8 _ _ ho
  have hbn : σ hb = none := hF.nn hn5
  have hL := hL.ro (ro_new hn5 hu8)
  have hF := hF.tr_ro (ro_new hn5 hu8)
  refine x_astore (i := 4) (L' := [(4, .ref hb), (3, .int (atV S m)), (0, .ref a), (1, .int (nI m)), (2, .ref ft)]) dX1_letsAllGo_10 (by decide) rfl ?_
  refine x_iconst (v := nI 0) dX1_letsAllGo_12 (by decide) ?_
  refine x_istore (i := 5) (L' := [(5, .int (nI 0)), (4, .ref hb), (3, .int (atV S m)), (0, .ref a), (1, .int (nI m)), (2, .ref ft)]) dX1_letsAllGo_13 (by decide) rfl ?_
  refine x_locs (L' := [(0, .ref a), (1, .int (nI m)), (2, .ref ft), (3, .int (atV S m)), (4, .ref hb), (5, .int (nI 0))]) [3, 4, 5, 2, 1, 0] rfl ?_
  suffices loop : ∀ (d i : Nat) (τ : AH) (N2 : Nat → NL) (mc2 : Nat → Int32) (g : Nat → Int32), i + d = 8 → LD τ a ad N2 mc2 (clrT (noMore S m) m i) → Fr (FP a ad N) σ τ → (∀ q, FP a ad N2 q → FP a ad N q ∨ σ q = none) → τ hb = some (.inl (2, 8, .inl g)) → (∀ j, j < i → g j = bI (!(hw S m j == 0))) → X l yX1_letsAllGo cX1_letsAllGo 7 (some FieldType.int) [] G (yroom 8 10 53) (yEnd G (yroom 8 10 53) (PI fun z τ => z = nI (letAll S m).2 ∧ PL a ad N σ (letAll S m).1 τ)) 15 [(0, .ref a), (1, .int (nI m)), (2, .ref ft), (3, .int (atV S m)), (4, .ref hb), (5, .int (nI i))] [] τ (10 - 9 - 1) (53 - 45 - 8) from loop 8 0 _ N1 mc1 _ rfl (by rw [clrT_0]; exact hL) hF hQ hc7 (fun j hj => absurd hj (Nat.not_lt_zero j))
  intro d
  induction d with
  | zero =>
    intro i τ N2 mc2 g hi hL hF hQ hbc hg
    have hi8 : i = 8 := by omega
    subst hi8
    have ho := hL.o
    have hfi := hf.frL hL0 hF
    refine x_iload dX1_letsAllGo_15 5 rfl ?_
    refine x_bipush (v := nI 8) dX1_letsAllGo_17 (by decide) ?_
    refine x_icmp_ge (tgt := 60) dX1_letsAllGo_19 (by decide) (fun _ => ?_) (fun h_ => absurd (by decide) h_)
    refine x_iload_n dX1_letsAllGo_60 3 rfl rfl ?_
    refine x_bipush (v := (-15)) dX1_letsAllGo_61 (by decide) ?_
    cases hat : aAt S m with
    | none =>
      refine x_icmp_ne (tgt := 70) dX1_letsAllGo_63 (by decide) (fun h_ => absurd (atV_none hat) h_) (fun _ => ?_)
      refine x_iconst (v := nI 0) dX1_letsAllGo_66 (by decide) ?_
      refine x_goto (tgt := 76) dX1_letsAllGo_67 (by decide) ?_
      refine x_locs (L' := [(0, .ref a), (1, .int (nI m)), (2, .ref ft), (3, .int (atV S m)), (4, .ref hb)]) [0, 1, 2, 3, 4] rfl ?_
      exact tail (clearHw (noMore S m) m, 0) τ N2 mc2 hb g _ _ hIc (by unfold letAll; rw [hat, hhw]) hL hF hQ hbc hg
    | some s =>
      have hs := (aAt_some hat).1
      refine x_icmp_ne (tgt := 70) dX1_letsAllGo_63 (by decide) (fun _ => ?_) (fun h_ => by rw [atV_some hat] at h_; exact absurd h_ ((by decide +kernel : ∀ s, s < 8 → ¬ nI s = (-15)) s hs))
      refine x_aload_n dX1_letsAllGo_70 0 rfl rfl ?_
      refine x_iload_n dX1_letsAllGo_71 3 rfl rfl ?_
      refine x_aload_n dX1_letsAllGo_72 2 rfl rfl ?_
      refine x_top2 (x' := nI s) (atV_some hat) ?_
      refine x_callV dX1_letsAllGo_73 (con_X1_serves hL hIc hs hfi) (lw_V q1339 q1341 qs25 q86 q1342) (np := 2) (by decide +kernel) rfl (rcv_of vC_1 ho) ⟨Nat.le_of_ble_eq_true rfl, Nat.le_of_ble_eq_true rfl⟩ (Nat.le_of_ble_eq_true rfl) rfl (Nat.zero_le _) (Nat.zero_le _) (rI fun z σ9 h9 => ?_) nI'
      obtain ⟨hz, N3, mc3, hL3, hF3, hQ3⟩ := h9
      refine x_top (x' := nI (serve (clearHw (noMore S m) m) s).2) (hz) ?_
      have hbc3 : σ9 hb = _ := hF3.1 _ _ hbc (hL.not hbc rfl)
      refine x_locs (L' := [(0, .ref a), (1, .int (nI m)), (2, .ref ft), (3, .int (atV S m)), (4, .ref hb)]) [0, 1, 2, 3, 4] rfl ?_
      exact tail (serve (clearHw (noMore S m) m) s) σ9 N3 mc3 hb g _ _ (hIc.iServe hs) (by unfold letAll; rw [hat, hhw]) hL3 (hF.tr hF3 hQ) (fun q hq => (hQ3 q hq).elim (hQ q) (fun z => Or.inr (hF.nn z))) hbc3 hg
  | succ d ih =>
    intro i τ N2 mc2 g hi hL hF hQ hbc hg
    have hi8 : i < 8 := by omega
    have ho := hL.o
    have hwi : hw (clrT (noMore S m) m i) m i = hw S m i := by rw [clrT_s, if_neg (Nat.lt_irrefl i), hhw]
    have h2i := h2 i
    refine x_iload dX1_letsAllGo_15 5 rfl ?_
    refine x_bipush (v := nI 8) dX1_letsAllGo_17 (by decide) ?_
    refine x_icmp_ge (tgt := 60) dX1_letsAllGo_19 (by decide) (fun h_ => absurd h_ (fun h => absurd (nLe (by omega) (by omega) h) (by omega))) (fun _ => ?_)
    refine x_aload dX1_letsAllGo_22 4 rfl ?_
    refine x_iload dX1_letsAllGo_24 5 rfl ?_
    refine x_aload_n dX1_letsAllGo_26 0 rfl rfl ?_
    refine x_get dX1_letsAllGo_27 vC_1 in_X1 ho 0 (by decide) q277 rfl ?_
    refine x_iload_n dX1_letsAllGo_30 1 rfl rfl ?_
    obtain ⟨fh10, hh11, hv12⟩ := hL.2.1
    refine x_aald7 (N := 24) (j := m) dX1_letsAllGo_31 hh11 rfl (hm) (by decide) (hv12 _ (hm)) ?_
    refine x_iload dX1_letsAllGo_32 5 rfl ?_
    obtain ⟨fr13, hr14, hw15⟩ := hL.row (m := m) (hm)
    refine x_sald (N := 8) (j := i) (v := nI (hw (clrT (noMore S m) m i) m i)) dX1_letsAllGo_34 hr14 rfl (hi8) (by decide) (hw15 _ (hi8)) ?_
    refine x_top (x' := nI (hw S m i)) (by rw [hwi]) ?_
    refine x_if_eq (tgt := 42) dX1_letsAllGo_35 (by decide) (fun c1 => ?_) (fun c1 => ?_)
    · have hbv : (!(hw S m i == 0)) = false := by
        have := n0 (by omega) c1
        simp [this]
      refine x_iconst (v := nI 0) dX1_letsAllGo_42 (by decide) ?_
      refine x_top (x' := bI (!(hw S m i == 0))) (by rw [hbv]; rfl) ?_
      refine x_zast (N := 8) (j := i) dX1_letsAllGo_43 hbc rfl hi8 (by decide) (vp_z _) (fun σ16 h17 h18 => ?_)
      obtain ⟨N3, mc3, hL, hF, hQ⟩ := PL.nxz ⟨_, _, hL, hF, hQ⟩ hbn ⟨_, hbc, rfl, Nat.ne_of_beq_eq_false rfl⟩ h18
      have ho := hL.o
      have hbc := h17
      refine x_aload_n dX1_letsAllGo_44 0 rfl rfl ?_
      refine x_get dX1_letsAllGo_45 vC_1 in_X1 ho 0 (by decide) q277 rfl ?_
      refine x_iload_n dX1_letsAllGo_48 1 rfl rfl ?_
      obtain ⟨fh19, hh20, hv21⟩ := hL.2.1
      refine x_aald7 (N := 24) (j := m) dX1_letsAllGo_49 hh20 rfl (hm) (by decide) (hv21 _ (hm)) ?_
      refine x_iload dX1_letsAllGo_50 5 rfl ?_
      refine x_iconst (v := nI 0) dX1_letsAllGo_52 (by decide) ?_
      obtain ⟨fr22, hr23, hw24⟩ := hL.row (m := m) (hm)
      refine x_sast (N := 8) (j := i) (w := nI 0) dX1_letsAllGo_53 hr23 rfl (hi8) (by decide) (by decide) (fun σ25 h26 h27 => ?_)
      obtain ⟨N28, mc29, hL, hF, hQ⟩ : PL a ad N σ (clrT (noMore S m) m (i + 1)) σ25 := PL.tr hF hQ (PL.how hL (m := m) (hm) h26 h27 (fun j hj => by
          rw [clrT_s]
          unfold upd
          by_cases e : j = i
          · rw [if_pos e, if_pos (by omega)]
          · rw [if_neg e, hw24 j hj, clrT_s]
            by_cases e2 : j < i
            · rw [if_pos e2, if_pos (by omega)]
            · rw [if_neg e2, if_neg (by omega)]) (fun m' _ hn => (clrT_n hn).trans (clrT_n hn).symm) ⟨rfl, rfl⟩ rfl (fun i hi => rfl))
      have ho := hL.o
      refine x_iinc (i := 5) (q := 5) (v := nI (i + 1)) (L' := [(5, .int (nI (i + 1))), (0, .ref a), (1, .int (nI m)), (2, .ref ft), (3, .int (atV S m)), (4, .ref hb)]) dX1_letsAllGo_54 rfl (nI_1 _) (by decide) rfl ?_
      refine x_goto (tgt := 15) dX1_letsAllGo_57 (by decide) ?_
      refine x_locs (L' := [(0, .ref a), (1, .int (nI m)), (2, .ref ft), (3, .int (atV S m)), (4, .ref hb), (5, .int (nI (i + 1)))]) [1, 2, 3, 4, 5, 0] rfl ?_
      exact ih (i + 1) _ _ _ _ (by omega) hL hF hQ (at_put h27 hbc (cell_ne hr23 hbc rfl)) (BI_updF hg)
    · have hbv : (!(hw S m i == 0)) = true := by
        have := nN0 c1
        simp [this]
      refine x_iconst (v := nI 1) dX1_letsAllGo_38 (by decide) ?_
      refine x_goto (tgt := 43) dX1_letsAllGo_39 (by decide) ?_
      refine x_top (x' := bI (!(hw S m i == 0))) (by rw [hbv]; rfl) ?_
      refine x_zast (N := 8) (j := i) dX1_letsAllGo_43 hbc rfl hi8 (by decide) (vp_z _) (fun σ30 h31 h32 => ?_)
      obtain ⟨N3, mc3, hL, hF, hQ⟩ := PL.nxz ⟨_, _, hL, hF, hQ⟩ hbn ⟨_, hbc, rfl, Nat.ne_of_beq_eq_false rfl⟩ h32
      have ho := hL.o
      have hbc := h31
      refine x_aload_n dX1_letsAllGo_44 0 rfl rfl ?_
      refine x_get dX1_letsAllGo_45 vC_1 in_X1 ho 0 (by decide) q277 rfl ?_
      refine x_iload_n dX1_letsAllGo_48 1 rfl rfl ?_
      obtain ⟨fh33, hh34, hv35⟩ := hL.2.1
      refine x_aald7 (N := 24) (j := m) dX1_letsAllGo_49 hh34 rfl (hm) (by decide) (hv35 _ (hm)) ?_
      refine x_iload dX1_letsAllGo_50 5 rfl ?_
      refine x_iconst (v := nI 0) dX1_letsAllGo_52 (by decide) ?_
      obtain ⟨fr36, hr37, hw38⟩ := hL.row (m := m) (hm)
      refine x_sast (N := 8) (j := i) (w := nI 0) dX1_letsAllGo_53 hr37 rfl (hi8) (by decide) (by decide) (fun σ39 h40 h41 => ?_)
      obtain ⟨N42, mc43, hL, hF, hQ⟩ : PL a ad N σ (clrT (noMore S m) m (i + 1)) σ39 := PL.tr hF hQ (PL.how hL (m := m) (hm) h40 h41 (fun j hj => by
          rw [clrT_s]
          unfold upd
          by_cases e : j = i
          · rw [if_pos e, if_pos (by omega)]
          · rw [if_neg e, hw38 j hj, clrT_s]
            by_cases e2 : j < i
            · rw [if_pos e2, if_pos (by omega)]
            · rw [if_neg e2, if_neg (by omega)]) (fun m' _ hn => (clrT_n hn).trans (clrT_n hn).symm) ⟨rfl, rfl⟩ rfl (fun i hi => rfl))
      have ho := hL.o
      refine x_iinc (i := 5) (q := 5) (v := nI (i + 1)) (L' := [(5, .int (nI (i + 1))), (0, .ref a), (1, .int (nI m)), (2, .ref ft), (3, .int (atV S m)), (4, .ref hb)]) dX1_letsAllGo_54 rfl (nI_1 _) (by decide) rfl ?_
      refine x_goto (tgt := 15) dX1_letsAllGo_57 (by decide) ?_
      refine x_locs (L' := [(0, .ref a), (1, .int (nI m)), (2, .ref ft), (3, .int (atV S m)), (4, .ref hb), (5, .int (nI (i + 1)))]) [1, 2, 3, 4, 5, 0] rfl ?_
      exact ih (i + 1) _ _ _ _ (by omega) hL hF hQ (at_put h41 hbc (cell_ne hr37 hbc rfl)) (BI_updF hg)
set_option maxHeartbeats 4000000 in
set_option maxRecDepth 100000 in
theorem con_X1_frees_r {l : Launch} {G : YG} {σ : AH} {a : Nat} {ad : Nat → Nat} {N : Nat → NL} {mc : Nat → Int32} {S : AS} {m s ft : Nat} (hL : LD σ a ad N mc S) (hI : IV S) (hm : m < 24) (hs : s < 8) (h0 : hw S m s = 0) : Con l yX1_frees cX1_frees 5 (some FieldType.int) G 9 17 85 [.ref a, .int (nI m), .int (nI s), .ref ft] σ (PT σ (nI 4) (nI s)) := by
  refine con_of (by decide) (Nat.le_of_ble_eq_true rfl) ?_
  refine x_locs (L' := [(0, .ref a), (1, .int (nI m)), (2, .int (nI s)), (3, .ref ft)]) [0, 1, 2, 3] rfl ?_
  have ho := hL.o
  refine x_aload_n dX1_frees_0 0 rfl rfl ?_
  refine x_get dX1_frees_1 vC_1 in_X1 ho 0 (by decide) q277 rfl ?_
  refine x_iload_n dX1_frees_4 1 rfl rfl ?_
  obtain ⟨fh1, hh2, hv3⟩ := hL.2.1
  refine x_aald7 (N := 24) (j := m) dX1_frees_5 hh2 rfl (hm) (by decide) (hv3 _ (hm)) ?_
  refine x_iload_n dX1_frees_6 2 rfl rfl ?_
  obtain ⟨fr4, hr5, hw6⟩ := hL.row (m := m) (hm)
  refine x_sald (N := 8) (j := s) (v := nI (hw S m s)) dX1_frees_7 hr5 rfl (hs) (by decide) (hw6 _ (hs)) ?_
  refine x_if_ne (tgt := 15) dX1_frees_8 (by decide) (fun h_ => absurd (by rw [h0]; rfl) h_) (fun _ => ?_)
  refine x_iconst (v := nI 1) dX1_frees_11 (by decide) ?_
  refine x_goto (tgt := 16) dX1_frees_12 (by decide) ?_
  refine x_iconst (v := nI 4) dX1_frees_16 (by decide) ?_
  refine x_iload_n dX1_frees_17 2 rfl rfl ?_
  refine x_callSN dX1_frees_18 (con_X0_refuse1) (lw_meth q961) q85 q959 q960 (np := 3) (by decide +kernel) rfl ⟨Nat.le_of_ble_eq_true rfl, Nat.le_of_ble_eq_true rfl⟩ (Nat.le_of_ble_eq_true rfl) rfl (by omega) (by omega) rTn (fun E_ q_ σ7 hT_ => ?_)
  exact xt_out (fun z hz => by cases hz) hT_
set_option maxHeartbeats 4000000 in
set_option maxRecDepth 100000 in
theorem con_X1_frees {l : Launch} {G : YG} {σ : AH} {a : Nat} {ad : Nat → Nat} {N : Nat → NL} {mc : Nat → Int32} {S : AS} {m s ft : Nat} {T : AS} {t : Nat} (hL : LD σ a ad N mc S) (hI : IV S) (hm : m < 24) (hs : s < 8) (hf : FT σ ft) (he : opFree S m s = .inr (T, t)) : Con l yX1_frees cX1_frees 5 (some FieldType.int) G 9 17 85 [.ref a, .int (nI m), .int (nI s), .ref ft] σ (PI fun z τ => z = nI t ∧ PL a ad N σ T τ) := by
  refine con_of (by decide) (Nat.le_of_ble_eq_true rfl) ?_
  refine x_locs (L' := [(0, .ref a), (1, .int (nI m)), (2, .int (nI s)), (3, .ref ft)]) [0, 1, 2, 3] rfl ?_
  have ho := hL.o
  have hL0 := hL
  have h2 := hI.2.2.1 m s
  have h0 : hw S m s ≠ 0 := fun e => by unfold opFree at he; rw [if_pos e] at he; cases he
  unfold opFree at he
  rw [if_neg h0] at he
  have he' := Sum.inr.inj he
  obtain ⟨T1, hT1⟩ : ∃ T1, T1 = (if aAt S m = some s then noMore S m else S) := ⟨_, rfl⟩
  rw [← hT1] at he'
  have hIT : IV T1 := by
    rw [hT1]; split
    · exact hI.iNoMore
    · exact hI
  have hhT : hw T1 = hw S := by
    rw [hT1]; split
    · exact noMore_hw.1
    · rfl
  have hwT : wishIn m (qu T1 s) = none := by
    rw [hT1]
    split
    · exact aAt_none.mp (noMore_self hI.uq) s hs
    · rename_i hn
      cases hq : wishIn m (qu S s) with
      | none => rfl
      | some x => exact absurd (aAt_uq hI.uq hs hq) hn
  have hIF : IV (sHw T1 (fset (hw T1) m (fset (hw T1 m) s 0))) := hIT.hwm (fun z => by
      by_cases e : z = s
      · subst e; rw [fset_s]; omega
      · rw [fset_n e]; exact hIT.2.2.1 m z) (fun z h => by
      by_cases e : z = s
      · subst e; rw [fset_s] at h; exact absurd rfl h
      · rw [fset_n e] at h; exact hIT.2.2.2.1 m z h) (fun z hz h => by
      by_cases e : z = s
      · subst e; exact hwT
      · rw [fset_n e] at h; exact absurd rfl h)
  rw [← hhT] at he'
  have tail : ∀ (τ : AH) (N2 : Nat → NL) (mc2 : Nat → Int32) (k n : Nat), LD τ a ad N2 mc2 T1 → Fr (FP a ad N) σ τ → (∀ q, FP a ad N2 q → FP a ad N q ∨ σ q = none) → X l yX1_frees cX1_frees 5 (some FieldType.int) [] G (yroom 9 17 85) (yEnd G (yroom 9 17 85) (PI fun z τ => z = nI t ∧ PL a ad N σ T τ)) 37 [(0, .ref a), (1, .int (nI m)), (2, .int (nI s)), (3, .ref ft)] [] τ k n := by
    intro τ N2 mc2 k n hL hF hQ
    have ho := hL.o
    refine x_aload_n dX1_frees_37 0 rfl rfl ?_
    refine x_get dX1_frees_38 vC_1 in_X1 ho 0 (by decide) q277 rfl ?_
    refine x_iload_n dX1_frees_41 1 rfl rfl ?_
    obtain ⟨fh1, hh2, hv3⟩ := hL.2.1
    refine x_aald7 (N := 24) (j := m) dX1_frees_42 hh2 rfl (hm) (by decide) (hv3 _ (hm)) ?_
    refine x_iload_n dX1_frees_43 2 rfl rfl ?_
    refine x_iconst (v := nI 0) dX1_frees_44 (by decide) ?_
    obtain ⟨fr4, hr5, hw6⟩ := hL.row (m := m) (hm)
    refine x_sast (N := 8) (j := s) (w := nI 0) dX1_frees_45 hr5 rfl (hs) (by decide) (by decide) (fun σ7 h8 h9 => ?_)
    obtain ⟨N10, mc11, hL, hF, hQ⟩ : PL a ad N σ (sHw T1 (fset (hw T1) m (fset (hw T1 m) s 0))) σ7 := PL.tr hF hQ (PL.how hL (m := m) (hm) h8 h9 (fun j hj => by
        show upd _ _ _ j = nI (fset (hw T1) m (fset (hw T1 m) s 0) m j)
        rw [fset_s]
        unfold upd fset
        split
        · rfl
        · exact hw6 j hj) (fun m' _ hn => fset_n hn) ⟨rfl, rfl⟩ rfl (fun i hi => rfl))
    have ho := hL.o
    have hf9 := hf.frL hL0 hF
    refine x_aload_n dX1_frees_46 0 rfl rfl ?_
    refine x_iload_n dX1_frees_47 2 rfl rfl ?_
    refine x_aload_n dX1_frees_48 3 rfl rfl ?_
    refine x_callV dX1_frees_49 (con_X1_serves hL hIF hs hf9) (lw_V q1339 q1341 qs25 q86 q1342) (np := 2) (by decide +kernel) rfl (rcv_of vC_1 ho) ⟨Nat.le_of_ble_eq_true rfl, Nat.le_of_ble_eq_true rfl⟩ (Nat.le_of_ble_eq_true rfl) rfl (Nat.zero_le _) (Nat.zero_le _) (rI fun z σ12 h9 => ?_) nI'
    obtain ⟨hz, hP⟩ := h9
    have e1 := congrArg Prod.fst he'
    have e2 := congrArg Prod.snd he'
    simp only at e1 e2
    refine x_top (x' := nI t) (by rw [hz, e2]) ?_
    exact x_iret dX1_frees_52 rfl (⟨_, rfl, rfl, PL.tr hF hQ (by rw [← e1]; exact hP)⟩)
  refine x_aload_n dX1_frees_0 0 rfl rfl ?_
  refine x_get dX1_frees_1 vC_1 in_X1 ho 0 (by decide) q277 rfl ?_
  refine x_iload_n dX1_frees_4 1 rfl rfl ?_
  obtain ⟨fh13, hh14, hv15⟩ := hL.2.1
  refine x_aald7 (N := 24) (j := m) dX1_frees_5 hh14 rfl (hm) (by decide) (hv15 _ (hm)) ?_
  refine x_iload_n dX1_frees_6 2 rfl rfl ?_
  obtain ⟨fr16, hr17, hw18⟩ := hL.row (m := m) (hm)
  refine x_sald (N := 8) (j := s) (v := nI (hw S m s)) dX1_frees_7 hr17 rfl (hs) (by decide) (hw18 _ (hs)) ?_
  refine x_if_ne (tgt := 15) dX1_frees_8 (by decide) (fun _ => ?_) (fun h_ => absurd h_ (fun h => h0 (n0 (by omega) h)))
  refine x_iconst (v := nI 0) dX1_frees_15 (by decide) ?_
  refine x_iconst (v := nI 4) dX1_frees_16 (by decide) ?_
  refine x_iload_n dX1_frees_17 2 rfl rfl ?_
  refine x_callSN dX1_frees_18 (con_X0_refuse0) (lw_meth q961) q85 q959 q960 (np := 3) (by decide +kernel) rfl ⟨Nat.le_of_ble_eq_true rfl, Nat.le_of_ble_eq_true rfl⟩ (Nat.le_of_ble_eq_true rfl) rfl (Nat.zero_le _) (Nat.zero_le _) (rSV ?_) nV'
  refine x_aload_n dX1_frees_21 0 rfl rfl ?_
  refine x_iload_n dX1_frees_22 1 rfl rfl ?_
  refine x_callV dX1_frees_23 (con_X1_waitsFor hL hI hm) (lw_V q1068 q1069 q1070 q86 q1071) (np := 1) (by decide +kernel) rfl (rcv_of vC_1 ho) ⟨Nat.le_of_ble_eq_true rfl, Nat.le_of_ble_eq_true rfl⟩ (Nat.le_of_ble_eq_true rfl) rfl (by omega) (by omega) (rP fun σ19 hR => ?_) nI'
  have hL := hL.ro (hR)
  have ho := hL.o
  refine x_iload_n dX1_frees_26 2 rfl rfl ?_
  refine x_icmp_ne (tgt := 37) dX1_frees_27 (by decide) (fun c1 => ?_) (fun c1 => ?_)
  · have hat : aAt S m ≠ some s := fun e => c1 (atV_some e)
    rw [if_neg hat] at hT1
    subst hT1
    refine x_locs (L' := [(0, .ref a), (1, .int (nI m)), (2, .int (nI s)), (3, .ref ft)]) [0, 1, 2, 3] rfl ?_
    exact tail _ N mc _ _ hL hR.fr (fun _ hq => Or.inl hq)
  · have hat : aAt S m = some s := by
      cases h : aAt S m with
      | none => rw [atV_none h] at c1; exact absurd c1.symm ((by decide +kernel : ∀ s, s < 8 → ¬ nI s = (-15)) s hs)
      | some z => rw [atV_some h] at c1; exact congrArg some (nEq (by have := (aAt_some h).1; omega) (by omega) c1)
    rw [if_pos hat] at hT1
    subst hT1
    refine x_aload_n dX1_frees_30 0 rfl rfl ?_
    refine x_iload_n dX1_frees_31 1 rfl rfl ?_
    refine x_callV dX1_frees_32 (con_X1_waitsNoMore hL hI hm) (lw_V q1232 q1234 qs23 q86 q1235) (np := 1) (by decide +kernel) rfl (rcv_of vC_1 ho) ⟨Nat.le_of_ble_eq_true rfl, Nat.le_of_ble_eq_true rfl⟩ (Nat.le_of_ble_eq_true rfl) rfl (by omega) (by omega) (rI fun z σ20 h9 => ?_) nI'
    obtain ⟨hz, N1, mc1, hL1, hF1, hQ1⟩ := h9
    refine x_istore (i := 4) (L' := [(4, .int z), (0, .ref a), (1, .int (nI m)), (2, .int (nI s)), (3, .ref ft)]) dX1_frees_35 (by decide) rfl ?_
    refine x_locs (L' := [(0, .ref a), (1, .int (nI m)), (2, .int (nI s)), (3, .ref ft)]) [1, 2, 3, 4] rfl ?_
    exact tail _ N1 mc1 _ _ hL1 (hR.fr.tr hF1 (fun _ hq => Or.inl hq)) (fun q hq => (hQ1 q hq).imp id (fun z => hR.nn z))
set_option maxHeartbeats 4000000 in
set_option maxRecDepth 100000 in
theorem con_X1_ends {l : Launch} {G : YG} {σ : AH} {a : Nat} {ad : Nat → Nat} {N : Nat → NL} {mc : Nat → Int32} {S : AS} {m ft : Nat} (hL : LD σ a ad N mc S) (hI : IV S) (hm : m < 24) (hf : FT σ ft) : Con l yX1_ends cX1_ends 4 (some FieldType.int) G 9 10 53 [.ref a, .int (nI m), .ref ft] σ (PI fun z τ => z = nI (opEnd S m).2 ∧ PL a ad N σ (opEnd S m).1 τ) := by
  refine con_of (by decide) (Nat.le_of_ble_eq_true rfl) ?_
  refine x_locs (L' := [(0, .ref a), (1, .int (nI m)), (2, .ref ft)]) [0, 1, 2] rfl ?_
  have ho := hL.o
  have hKP := KP.let hI (m := m)
  refine x_aload_n dX1_ends_0 0 rfl rfl ?_
  refine x_iload_n dX1_ends_1 1 rfl rfl ?_
  refine x_aload_n dX1_ends_2 2 rfl rfl ?_
  refine x_callV dX1_ends_3 (con_X1_letsAllGo hL hI hm hf) (lw_V q1228 q1230 qs22 q86 q1231) (np := 2) (by decide +kernel) rfl (rcv_of vC_1 ho) ⟨Nat.le_of_ble_eq_true rfl, Nat.le_of_ble_eq_true rfl⟩ (Nat.le_of_ble_eq_true rfl) rfl (by omega) (by omega) (rI fun z σ1 h0 => ?_) nI'
  obtain ⟨hz, N1, mc1, hL, hF, hQ⟩ := h0
  have ho := hL.o
  refine x_top (x' := nI (letAll S m).2) (hz) ?_
  refine x_istore_n (i := 3) (L' := [(3, .int (nI (letAll S m).2)), (0, .ref a), (1, .int (nI m)), (2, .ref ft)]) dX1_ends_6 rfl (by decide) rfl ?_
  refine x_aload_n dX1_ends_7 1 rfl rfl ?_
  refine x_dup dX1_ends_8 rfl ?_
  refine x_get dX1_ends_9 vC_1 in_X1 ho 7 (by decide) q289 rfl ?_
  refine x_iconst (v := nI 1) dX1_ends_12 (by decide) ?_
  refine x_iload_n dX1_ends_13 2 rfl rfl ?_
  refine x_ishl dX1_ends_14 ?_
  refine x_iconst (v := (-1)) dX1_ends_15 (by decide) ?_
  refine x_ixor dX1_ends_16 ?_
  refine x_iand dX1_ends_17 ?_
  refine x_top (x' := encB (fset (tH (letAll S m).1) m false)) (BS.unset (encB_BS _) hm) ?_
  refine x_put (fs' := [.ref (ad 0), .ref (ad 1), .ref (ad 2), .ref (ad 3), .ref (ad 4), .ref (ad 5), .ref (ad 6), .int (encB (fset (tH (letAll S m).1) m false)), .int (nI (nC ((letAll S m).1))), .int (nI (nE ((letAll S m).1)))]) dX1_ends_18 vC_1 in_X1 tyX1_ok nmX1 ho 7 (by decide) q289 rfl rfl (rfl) (rfl) (Nat.le_of_ble_eq_true rfl) rfl (fun σ2 hc4 hu3 => ?_)
  refine x_aload_n dX1_ends_21 1 rfl rfl ?_
  refine x_dup dX1_ends_22 rfl ?_
  refine x_get dX1_ends_23 vC_1 in_X1 hc4 9 (by decide) q292 rfl ?_
  refine x_iconst (v := nI 1) dX1_ends_26 (by decide) ?_
  refine x_iadd dX1_ends_27 ?_
  refine x_top (x' := nI (nE ((letAll S m).1) + 1)) (nI_add _ _) ?_
  refine x_put (fs' := [.ref (ad 0), .ref (ad 1), .ref (ad 2), .ref (ad 3), .ref (ad 4), .ref (ad 5), .ref (ad 6), .int (encB (fset (tH (letAll S m).1) m false)), .int (nI (nC ((letAll S m).1))), .int (nI (nE ((letAll S m).1) + 1))]) dX1_ends_28 vC_1 in_X1 tyX1_ok nmX1 hc4 9 (by decide) q292 rfl rfl (rfl) (rfl) (Nat.le_of_ble_eq_true rfl) rfl (fun σ5 hc7 hu6 => ?_)
  refine x_iload_n dX1_ends_31 0 rfl rfl ?_
  exact x_iret dX1_ends_32 rfl (⟨_, rfl, rfl, PL.tr hF hQ (PL.obj hL (S' := (opEnd S m).1) (by rw [hc7]; show some (Sum.inr (1, _)) = some (Sum.inr (1, lFs ad (opEnd S m).1)); unfold lFs opEnd; show _ = some (Sum.inr (1, [_, _, _, _, _, _, _, Value.int (encB (fset (tH S) m false)), Value.int (nI (nC (letAll S m).1)), Value.int (nI (nE S + 1))])); rw [hKP.2.2.1, hKP.2.1]) (fun q hq => (hu6 q hq).trans (hu3 q hq)) rfl rfl (fun i hi => rfl))⟩)
