set_option maxRecDepth 100000
-- ===== lines =====
theorem x_cst {l : Launch} {y : MethodName} {cc : ByteArray} {nL : Nat} {ret : Option FieldType} {hh : List (Nat × Nat × Nat × Nat)} {G : YG} {R : Room} {Z : YE} {pc : Nat} {L : List (Nat × Value)} {st : List Value} {σ : AH} {k n : Nat} (kk : (∀ i, i < 9 → σ (gc G i) = none) → X l y cc nL ret hh G R Z pc L st σ k n) : X l y cc nL ret hh G R Z pc L st σ k n := by
  intro p e s m args below meth c H locs cells slots ls hB hR hS h e1 e2
  have hG : Glob G s := hB.2.2.2.2.2.2.2.2.2
  refine kk (fun i hi => ?_) p e s m args below meth c H locs cells slots ls hB hR hS h e1 e2
  cases hq : σ (gc G i) with
  | none => rfl
  | some x =>
    obtain ⟨ws, hm, hP, hD⟩ := hR
    obtain ⟨j, hj⟩ := rep_at (hm _ _ hq)
    obtain ⟨cell, -, -, -, hn⟩ := hG.2.2.2.2.2.2.2.1 "java/lang/String" (gc G i) (Or.inl ⟨rfl, i, hi, rfl⟩)
    exact absurd (hD.2 j _ hj) hn
theorem x_ldcwS {l : Launch} {y : MethodName} {cc : ByteArray} {nL : Nat} {ret : Option FieldType} {hh : List (Nat × Nat × Nat × Nat)} {G : YG} {R : Room} {Z : YE} {pc : Nat} {L : List (Nat × Value)} {rest : List Value} {σ : AH} {k n i ix : Nat} {tx : String} (hd : decode cc pc = .ok (.ldc_w ix, 3)) (hi : yStr[i]? = some (y.cls, ix, tx)) (kk : X l y cc nL ret hh G R Z (pc + 3) L (.ref (gc G i) :: rest) σ k n) : X l y cc nL ret hh G R Z pc L rest σ k n := by
  intro p e s m args below meth c H locs cells slots ls hB hR hS h e1 e2 T hT XX
  have hG : Glob G s := hB.2.2.2.2.2.2.2.2.2
  have hZ := hG.2.2.2.2.2.2.1 i _ hi
  obtain ⟨t, a1, b1⟩ := kk p e s m args below meth c H locs cells slots ls hB hR hS h e1 e2 T hT XX
  obtain ⟨k0, cf, j, a', hk, hcf, hcp, -, hr, hev'⟩ := Cond.stringRef_spec hB.2.2.2.2.2.1 hZ.1
  cases hZ.2.symm.trans hev'
  obtain ⟨k', hk', he⟩ := XX.warmed.alike.2.2 _ _ hk
  have hr' : k'.resolved[ix]? = some (some (.string (gc G i))) := by
    rcases XX.warmed.entry hk hk' ix with w | ⟨w, -⟩
    · rw [w]; exact hr
    · rw [hr] at w; cases w
  have hdd : decode c.code pc = .ok (.ldc_w ix, 3) := by rw [hB.2.1]; exact hd
  refine ⟨t, ?_, b1⟩
  jvm_step XX.here [hB.1, hdd, ldc_w.wp_string (e := e) (s := T) (f := F0 m pc ls rest) XX.here.top hk' (by rw [he]; exact hcf) hcp hr']
  exact a1
theorem RO.keep {σ τ υ : AH} {p : Nat} (hR : RO σ τ) (hp : σ p = none) (hu : ∀ r, τ r ≠ none → r ≠ p → υ r = τ r) : RO σ υ := fun q e hq => by
  have h1 := hR q e hq
  rw [hu q (by rw [h1]; exact fun z => by cases z) (fun z => by rw [z, hp] at hq; cases hq)]; exact h1
theorem RO.sk {σ τ υ : AH} {p b b' : Nat} (hR : RO σ τ) (hp : σ p = none) (hb : σ b = none) (hK : SK τ υ p b b') : RO σ υ := fun q e hq => by
  have h1 := hR q e hq
  rw [hK.1 q (by rw [h1]; exact fun z => by cases z) (fun z => by rw [z, hp] at hq; cases hq) (fun z => by rw [z, hb] at hq; cases hq)]; exact h1
theorem SK.nn {σ τ υ : AH} {p b b' : Nat} (hK : SK τ υ p b b') (hR : RO σ τ) (hb : σ b = none) : σ b' = none := hK.2.elim (fun e => by rw [e]; exact hb) (fun z => hR.nn z)
theorem SK.at {τ υ : AH} {p b b' N q : Nat} {t : List Nat} {e : Ent} (hK : SK τ υ p b b') (hS : SB τ p b N t) (hq : τ q = some e) (ht : Nat.beq (tag e) 16 = false ∧ Nat.beq (tag e) 103 = false) : υ q = some e := by
  obtain ⟨⟨ml, h1⟩, ⟨f, h2, -⟩, -⟩ := hS
  rw [hK.1 q (by rw [hq]; exact fun z => by cases z) (cell_ne h1 hq ht.1) (cell_ne h2 hq ht.2)]; exact hq
theorem SB.nxz {τ υ : AH} {p b N z : Nat} {t : List Nat} {e : Ent} (hS : SB τ p b N t) (hz : τ z = some e) (ht : Nat.beq 16 (tag e) = false ∧ Nat.beq 103 (tag e) = false) (hu : ∀ r, r ≠ z → υ r = τ r) : SB υ p b N t := by
  obtain ⟨⟨ml, h1⟩, ⟨f, h2, h3⟩, h4⟩ := hS
  exact ⟨⟨ml, at_put hu h1 (cell_ne hz h1 ht.1)⟩, ⟨f, at_put hu h2 (cell_ne hz h2 ht.2), h3⟩, h4⟩
theorem str1 {G : YG} {σ : AH} : StrAt G σ (gc G 1) [] := StrAt.con (by decide) rfl rfl (by decide) (fun _ h => by cases h)
theorem str2 {G : YG} {σ : AH} : StrAt G σ (gc G 2) [44] := StrAt.con (by decide) rfl rfl (by decide) (by decide)
theorem str3 {G : YG} {σ : AH} : StrAt G σ (gc G 3) [60] := StrAt.con (by decide) rfl rfl (by decide) (by decide)
theorem str4 {G : YG} {σ : AH} : StrAt G σ (gc G 4) [63] := StrAt.con (by decide) rfl rfl (by decide) (by decide)
/-- a new string -/
def STo (G : YG) (σ : AH) (q : Nat) (t : List Nat) (τ : AH) : Prop := σ q = none ∧ StrAt G τ q t ∧ (∃ v, τ q = some (.inr (17, [.ref v, .int 0, .int 0, .int 0])) ∧ σ v = none) ∧ RO σ τ
theorem STo.tr {G : YG} {σ τ υ : AH} {q : Nat} {t : List Nat} (hR : RO σ τ) (h : STo G τ q t υ) : STo G σ q t υ := by
  obtain ⟨h1, h2, ⟨v, h3, h4⟩, h5⟩ := h
  exact ⟨hR.nn h1, h2, ⟨v, h3, hR.nn h4⟩, hR.tr h5⟩
theorem holdL_hi {S : AS} {s : Nat} (hI : IV S) : holdL S s 24 = holdL S s (nC S) := by
  have key : ∀ n, nC S ≤ n → holdL S s n = holdL S s (nC S) := by
    intro n
    induction n with
    | zero => intro h; rw [Nat.le_zero.mp h]
    | succ n ih =>
      intro h
      by_cases e : n + 1 = nC S
      · rw [e]
      · have h0 : hw S n s = 0 := by
          by_cases q : hw S n s = 0
          · exact q
          · have := hI.th (hI.2.2.2.1 n s q); omega
        rw [holdL_s, if_pos h0, List.append_nil, ih (by omega)]
  exact key 24 hI.c
set_option maxHeartbeats 4000000 in
set_option maxRecDepth 100000 in
theorem con_X1_text {l : Launch} {G : YG} {σ : AH} {a : Nat} {ad : Nat → Nat} {N : Nat → NL} {mc : Nat → Int32} {S : AS} {s : Nat} (hL : LD σ a ad N mc S) (hI : IV S) (hs : s < 8) : Con l yX1_text cX1_text 6 (some (FieldType.object "java/lang/String")) G 6 57 15434 [.ref a, .int (nI s)] σ (PA fun q τ => STo G σ q (tellL S s) τ) := by
  refine con_of (by decide) (Nat.le_of_ble_eq_true rfl) ?_
  refine x_locs (L' := [(0, .ref a), (1, .int (nI s))]) [0, 1] rfl ?_
  have ho := hL.o
  have hL0 := hL
  have hC := hI.c
  have hl8 := hI.len hs
  have hhl : ∀ n, n ≤ 24 → (holdL S s n).length ≤ 96 := fun n hn => by have := holdL_len (S := S) (s := s) n; omega
  have hwl : ∀ n, n ≤ 8 → (waitL S s n).length ≤ 32 := fun n hn => by have := waitL_len (S := S) (s := s) n; omega
  have hnl : ∀ n, (numL n).length ≤ 2 := fun n => numL_len
  have hns := hnl s
  have h3 := c2T_sm hI (c := 3)
  have h9 := c2T_sm hI (c := 906)
  have hR : RO σ σ := RO.rf
  refine x_new (fs := [.null, .int 0, .int 0, .int 0]) dX1_text_0 vC_16 in_J10 tyJ10_ok q1743 q335 q98 rfl (by omega) (by omega) (fun sb σ1 hn2 hb3 hc4 hu5 => ?_)
  have sbn : σ sb = none := hR.nn hn2
  have hR := hR.tr (ro_new hn2 hu5)
  refine x_dup dX1_text_3 rfl ?_
  refine x_callI dX1_text_4 (con_J10_init hc4) (lw_meth q338) q98 q1744 q337 rfl (np := 0) (by decide +kernel) rfl ⟨Nat.le_of_ble_eq_true rfl, Nat.le_of_ble_eq_true rfl⟩ (Nat.le_of_ble_eq_true rfl) rfl (by omega) (by omega) (rV fun σ7 h6 => ?_) nV'
  obtain ⟨sb9, hbn, hS, sb9u⟩ := h6
  have hbn : σ sb9 = none := hR.nn hbn
  have hR := hR.keep sbn sb9u
  refine x_astore_n (i := 2) (L' := [(2, .ref sb), (0, .ref a), (1, .int (nI s))]) dX1_text_7 rfl (by decide) rfl ?_
  refine x_aload_n dX1_text_8 0 rfl rfl ?_
  refine x_iload_n dX1_text_9 2 rfl rfl ?_
  refine x_callV dX1_text_10 (con_J10_append_3 hS (n := s) (by omega) (by decide)) (lw_V q1745 q1746 q1747 q98 q1748) (np := 1) (by decide +kernel) rfl hS.rc ⟨Nat.le_of_ble_eq_true rfl, Nat.le_of_ble_eq_true rfl⟩ (Nat.le_of_ble_eq_true rfl) rfl (by omega) (by omega) (rA fun u_ σ11 h10 => ?_) nA'
  obtain ⟨hE_, sb12, N13, hS9, hK9⟩ := h10
  obtain rfl := hE_.symm
  have hR9 := hR.sk sbn hbn hK9
  have hbn := hK9.nn hR hbn
  have hR := hR9
  have hS := hS9
  refine x_bipush (v := nI 58) dX1_text_13 (by decide) ?_
  refine x_callV dX1_text_15 (con_J10_append_2 hS (c := 58) (by decide) (by simp only [List.length_append, List.length_cons, List.length_nil]; omega)) (lw_V q1770 q1510 q1511 q98 q1512) (np := 1) (by decide +kernel) rfl hS.rc ⟨Nat.le_of_ble_eq_true rfl, Nat.le_of_ble_eq_true rfl⟩ (Nat.le_of_ble_eq_true rfl) rfl (by omega) (by omega) (rA fun u_ σ15 h14 => ?_) nA'
  obtain ⟨hE_, sb16, N17, hS9, hK9⟩ := h14
  obtain rfl := hE_.symm
  have hR9 := hR.sk sbn hbn hK9
  have hbn := hK9.nn hR hbn
  have hR := hR9
  have hS := hS9
  refine x_pop dX1_text_18 rfl ?_
  have hL := hL0.ro hR
  have ho := hL.o
  refine x_iconst (v := nI 1) dX1_text_19 (by decide) ?_
  refine x_istore_n (i := 3) (L' := [(3, .int (nI 1)), (2, .ref sb), (0, .ref a), (1, .int (nI s))]) dX1_text_20 rfl (by decide) rfl ?_
  refine x_aload_n dX1_text_21 2 rfl rfl ?_
  refine x_callV dX1_text_22 (con_X1_maids hL) (lw_V q1130 q1131 q1132 q86 q1133) (np := 0) (by decide +kernel) rfl (rcv_of vC_1 ho) ⟨Nat.le_of_ble_eq_true rfl, Nat.le_of_ble_eq_true rfl⟩ (Nat.le_of_ble_eq_true rfl) rfl (by omega) (by omega) (rA fun it19 σ20 hm18 => ?_) nA'
  obtain ⟨it19n, it19c, it19u⟩ := hm18
  have hL := hL.ro (ro_new it19n it19u)
  have ho := hL.o
  have hS := hS.ro (ro_new it19n it19u)
  refine x_callF dX1_text_25 (con_X5_iterator it19c) (lw_F q1148 q1152 q1154 q120 q1156) q1150 q1149 q1155 q1153 q1151 (np := 0) (by decide +kernel) rfl vC_5 it19c ⟨Nat.le_of_ble_eq_true rfl, Nat.le_of_ble_eq_true rfl⟩ (Nat.le_of_ble_eq_true rfl) rfl (by omega) (by omega) (rA fun b σ22 hm21 => ?_) nA'
  obtain ⟨bn0, bc, bu⟩ := hm21
  have hL := hL.ro (ro_new bn0 bu)
  have ho := hL.o
  have hS := hS.ro (ro_new bn0 bu)
  have bn : σ b = none := ((hR).tr (ro_new it19n it19u)).nn bn0
  have hRb := ((hR).tr (ro_new it19n it19u)).tr (ro_new bn0 bu)
  have hR := hRb
  refine x_astore (i := 4) (L' := [(4, .ref b), (3, .int (nI 1)), (2, .ref sb), (0, .ref a), (1, .int (nI s))]) dX1_text_30 (by decide) rfl ?_
  refine x_locs (L' := [(0, .ref a), (1, .int (nI s)), (2, .ref sb), (3, .int (nI 1)), (4, .ref b)]) [3, 4, 2, 1, 0] rfl ?_
  have hS : SB σ22 sb sb16 N17 (numL s ++ [58] ++ holdL S s 0) := by
    have h := hS
    simp only [List.nil_append] at h
    show SB _ _ _ _ (numL s ++ [58] ++ [])
    rw [List.append_nil]; exact h
  have hfl : nI 1 = bI (cn (heldF S s) 0 == 0) := rfl
  suffices loop : ∀ (d j : Nat) (τ : AH) (z : Int32) (k n : Nat) (b1 N1 : Nat), j + d = 24 → RO σ τ → τ b = some (.inr (6, [.int z])) → BS z (fun i => decide (j ≤ i) && tH S i) → su (c2T S 3) j d + 27 ≤ k → su (c2T S 906) j d + 7559 ≤ n → SB τ sb b1 N1 (numL s ++ [58] ++ holdL S s j) → σ b1 = none → X l yX1_text cX1_text 6 (some (FieldType.object "java/lang/String")) [] G (yroom 6 57 15434) (yEnd G (yroom 6 57 15434) (PA fun q τ => STo G σ q (tellL S s) τ)) 32 [(0, .ref a), (1, .int (nI s)), (2, .ref sb), (3, .int (bI (cn (heldF S s) j == 0))), (4, .ref b)] [] τ k n from loop 24 0 _ _ _ _ _ _ (Nat.zero_add _) (hR) bc (encB_BS _) (by omega) (by omega) hS hbn
  intro d
  induction d with
  | zero =>
    intro j τ z k n b1 N1 hj hR hc hz hk0 hn0 hS hb1
    have hL := hL0.ro hR
    have ho := hL.o
    have hj24 : j = 24 := by omega
    subst hj24
    have hz0 : z = 0 := hz.zero_iff.mpr (fun i hi => by rw [decide_eq_false (by omega)]; rfl)
    refine x_aload dX1_text_32 4 rfl ?_
    refine x_callF dX1_text_34 (con_X6_hasNext hc) (lw_F q509 q513 q515 q121 q517) q511 q510 q516 q514 q512 (np := 0) (by decide +kernel) rfl vC_6 hc ⟨Nat.le_of_ble_eq_true rfl, Nat.le_of_ble_eq_true rfl⟩ (Nat.le_of_ble_eq_true rfl) rfl (Nat.zero_le _) (Nat.zero_le _) (rS ?_) nI'
    refine x_top (x' := 0) (by rw [hz0]; rfl) ?_
    refine x_if_eq (tgt := 110) dX1_text_39 (by decide) (fun _ => ?_) (fun h_ => absurd (rfl) h_)
    have hcC : holdL S s 24 = holdL S s (nC S) := holdL_hi hI
    rw [hcC] at hS
    refine x_iconst (v := nI 1) dX1_text_110 (by decide) ?_
    refine x_istore_n (i := 3) (L' := [(3, .int (nI 1)), (0, .ref a), (1, .int (nI s)), (2, .ref sb), (4, .ref b)]) dX1_text_111 rfl (by decide) rfl ?_
    refine x_aload_n dX1_text_112 1 rfl rfl ?_
    refine x_get dX1_text_113 vC_1 in_X1 ho 1 (by decide) q279 rfl ?_
    refine x_iload_n dX1_text_116 2 rfl rfl ?_
    refine x_callV dX1_text_117 (con_J2_get hL.al (lYs_at hs)) (lw_V q407 q408 q409 q89 q410) (np := 1) (by decide +kernel) rfl hL.al.rc ⟨Nat.le_of_ble_eq_true rfl, Nat.le_of_ble_eq_true rfl⟩ (Nat.le_of_ble_eq_true rfl) rfl (Nat.zero_le _) (Nat.zero_le _) (rSA ?_) nA'
    refine x_ckcast dX1_text_120 q183 (hL.ll hs).rc ?_
    refine x_callU dX1_text_123 (con_J3_iterator (hL.ll hs)) (lw_U q421 q422 q424 q425 q90 q426) rfl (np := 0) (by decide +kernel) rfl (hL.ll hs).rc ⟨Nat.le_of_ble_eq_true rfl, Nat.le_of_ble_eq_true rfl⟩ (Nat.le_of_ble_eq_true rfl) rfl (by omega) (by omega) (rA fun z σ25 hi24 => ?_) nA'
    obtain ⟨zn, zI, zR⟩ := hi24
    have hL := hL.ro (zR)
    have ho := hL.o
    have hS := hS.ro (zR)
    have zn : σ z = none := hR.nn zn
    have hR := hR.tr zR
    refine x_astore (i := 4) (L' := [(4, .ref z), (3, .int (nI 1)), (0, .ref a), (1, .int (nI s)), (2, .ref sb)]) dX1_text_126 (by decide) rfl ?_
    refine x_locs (L' := [(0, .ref a), (1, .int (nI s)), (2, .ref sb), (3, .int (nI 1)), (4, .ref z)]) [2, 3, 4, 1, 0] rfl ?_
    have hS : SB σ25 sb b1 N1 (numL s ++ [58] ++ holdL S s (nC S) ++ waitL S s 0) := by
      show SB _ _ _ _ (numL s ++ [58] ++ holdL S s (nC S) ++ [])
      rw [List.append_nil]; exact hS
    have hhC := hhl (nC S) hC
    have hfl2 : nI 1 = bI (0 == 0) := rfl
    suffices loop : ∀ (d j : Nat) (τ : AH) (la : Option Nat) (k n : Nat) (b1 N1 : Nat), j + d = (qu S s).length → RO σ τ → LI τ z (ad (10 + s)) (mc s) (N s) j la → d * 3 + 2 ≤ k → d * 906 + 306 ≤ n → SB τ sb b1 N1 (numL s ++ [58] ++ holdL S s (nC S) ++ waitL S s j) → σ b1 = none → X l yX1_text cX1_text 6 (some (FieldType.object "java/lang/String")) [] G (yroom 6 57 15434) (yEnd G (yroom 6 57 15434) (PA fun q τ => STo G σ q (tellL S s) τ)) 128 [(0, .ref a), (1, .int (nI s)), (2, .ref sb), (3, .int (bI (j == 0))), (4, .ref z)] [] τ k n from loop _ 0 _ none _ _ b1 N1 (Nat.zero_add _) (hR) zI  (by omega) (by omega) hS hb1
    intro d
    induction d with
    | zero =>
      intro j τ la k n b1 N1 hj hR hz hk0 hn0 hS hb1
      have hL := hL0.ro hR
      have ho := hL.o
      have hjl : j = (qu S s).length := by omega
      have hNl := (hL.wr hs).1
      refine x_aload dX1_text_128 4 rfl ?_
      refine x_callF dX1_text_130 (con_J18_hasNext (hL.ll hs) hz (by omega)) (lw_F q509 q549 q551 q108 q553) q511 q510 q552 q550 q548 (np := 0) (by decide +kernel) rfl vC_13 hz ⟨Nat.le_of_ble_eq_true rfl, Nat.le_of_ble_eq_true rfl⟩ (Nat.le_of_ble_eq_true rfl) rfl (Nat.zero_le _) (Nat.zero_le _) (rS ?_) nI'
      refine x_top (x' := 0) (by rw [decide_eq_false (by omega)]; rfl) ?_
      refine x_if_eq (tgt := 191) dX1_text_135 (by decide) (fun _ => ?_) (fun h_ => absurd (rfl) h_)
      refine x_aload_n dX1_text_191 2 rfl rfl ?_
      refine x_callV dX1_text_192 (con_J10_toString hS) (lw_V q1778 q809 q810 q98 q811) (np := 0) (by decide +kernel) rfl hS.rc ⟨Nat.le_of_ble_eq_true rfl, Nat.le_of_ble_eq_true rfl⟩ (Nat.le_of_ble_eq_true rfl) rfl (by omega) (by omega) (rA fun q σ28 h9 => ?_) nA'
      exact x_aret dX1_text_195 rfl (by first | exact Or.inl ⟨_, rfl⟩ | exact Or.inr ⟨_, rfl⟩) (Or.inr ⟨_, rfl⟩) (⟨_, rfl, STo.tr hR (by unfold tellL; rw [hjl] at h9; exact h9)⟩)
    | succ d ih =>
      intro j τ la k n b1 N1 hj hR hz hk0 hn0 hS hb1
      have hL := hL0.ro hR
      have ho := hL.o
      have hNl := (hL.wr hs).1
      obtain ⟨x, hx⟩ : ∃ x, (N s)[j]? = some x := ⟨_, List.getElem?_eq_getElem (by omega)⟩
      obtain ⟨wv, hwv⟩ : ∃ wv, (qu S s)[j]? = some wv := ⟨_, List.getElem?_eq_getElem (by omega)⟩
      have hwc := (hL.wr hs).2 j x wv hx hwv
      have hwi := hI.w hs (List.mem_of_getElem? hwv)
      have hwC := hI.th hwi.1
      have hC := hI.c
      refine x_aload dX1_text_128 4 rfl ?_
      refine x_callF dX1_text_130 (con_J18_hasNext (hL.ll hs) hz (by omega)) (lw_F q509 q549 q551 q108 q553) q511 q510 q552 q550 q548 (np := 0) (by decide +kernel) rfl vC_13 hz ⟨Nat.le_of_ble_eq_true rfl, Nat.le_of_ble_eq_true rfl⟩ (Nat.le_of_ble_eq_true rfl) rfl (Nat.zero_le _) (Nat.zero_le _) (rS ?_) nI'
      refine x_top (x' := 1) (by rw [decide_eq_true (by omega)]; rfl) ?_
      refine x_if_eq (tgt := 191) dX1_text_135 (by decide) (fun h_ => absurd h_ (by decide)) (fun _ => ?_)
      refine x_aload dX1_text_138 4 rfl ?_
      have hzO := hz
      refine x_callF dX1_text_140 (con_J18_next (hL.ll hs) hz hx) (lw_F q555 q905 q907 q108 q909) q557 q556 q908 q906 q548 (np := 0) (by decide +kernel) rfl vC_13 hz ⟨Nat.le_of_ble_eq_true rfl, Nat.le_of_ble_eq_true rfl⟩ (Nat.le_of_ble_eq_true rfl) rfl (Nat.zero_le _) (Nat.zero_le _) (rA fun u σ31 h30 => ?_) nA'
      obtain ⟨rfl, hz, zU⟩ := h30
      have hR := hR.nx zn zU
      have hL := hL0.ro hR
      have ho := hL.o
      have hwc := (hL.wr hs).2 j x wv hx hwv
      refine x_ckcast dX1_text_145 q915 (rcv_of vC_4 hwc) ?_
      have hS := hS.nxz hzO ⟨rfl, rfl⟩ zU
      have hwj := hwl j (by omega)
      have hnw := hnl wv.1
      have hk12 := hwi.2.1
      have hzI := hz
      unfold LI at hzI
      refine x_astore (i := 5) (L' := [(5, .ref x.2), (0, .ref a), (1, .int (nI s)), (2, .ref sb), (3, .int (bI (j == 0))), (4, .ref z)]) dX1_text_148 (by decide) rfl ?_
      refine x_aload_n dX1_text_150 3 rfl rfl ?_
      refine x_iload_n dX1_text_151 4 rfl rfl ?_
      refine x_if_eq (tgt := 161) dX1_text_152 (by decide) (fun c1 => ?_) (fun c1 => ?_)
      · have c1 := bI_0 c1
        have hj0 : ¬ j = 0 := by simpa using c1
        refine x_ldcS (i := 2) dX1_text_161 rfl ?_
        refine x_cst (fun hcst => ?_)
        refine x_callV dX1_text_163 (con_J10_append hS str2 (fun v h1 h2 hq => by rw [hcst 2 (by decide)] at hq; cases hq) (by simp only [List.length_append, List.length_cons, List.length_nil]; omega)) (lw_V q1773 q703 q704 q98 q705) (np := 1) (by decide +kernel) rfl hS.rc ⟨Nat.le_of_ble_eq_true rfl, Nat.le_of_ble_eq_true rfl⟩ (Nat.le_of_ble_eq_true rfl) rfl (by omega) (by omega) (rA fun u_ σ33 h32 => ?_) nA'
        obtain ⟨hE_, sb34, N35, hS9, hK9⟩ := h32
        obtain rfl := hE_.symm
        have hwc := hK9.at hS hwc ⟨rfl, rfl⟩
        have hzI := hK9.at hS hzI ⟨rfl, rfl⟩
        have hR9 := hR.sk sbn hb1 hK9
        have hb1 := hK9.nn hR hb1
        have hR := hR9
        have hS := hS9
        refine x_aload dX1_text_166 0 rfl ?_
        refine x_getN dX1_text_168 vC_4 in_X4 hwc 0 (by decide) q1078 rfl ?_
        refine x_callV dX1_text_171 (con_J10_append_3 hS (n := wv.1) (by omega) (by simp only [List.length_append, List.length_cons, List.length_nil]; omega)) (lw_V q1745 q1746 q1747 q98 q1748) (np := 1) (by decide +kernel) rfl hS.rc ⟨Nat.le_of_ble_eq_true rfl, Nat.le_of_ble_eq_true rfl⟩ (Nat.le_of_ble_eq_true rfl) rfl (by omega) (by omega) (rA fun u_ σ37 h36 => ?_) nA'
        obtain ⟨hE_, sb38, N39, hS9, hK9⟩ := h36
        obtain rfl := hE_.symm
        have hwc := hK9.at hS hwc ⟨rfl, rfl⟩
        have hzI := hK9.at hS hzI ⟨rfl, rfl⟩
        have hR9 := hR.sk sbn hb1 hK9
        have hb1 := hK9.nn hR hb1
        have hR := hR9
        have hS := hS9
        refine x_aload dX1_text_174 0 rfl ?_
        refine x_getN dX1_text_176 vC_4 in_X4 hwc 1 (by decide) q1081 rfl ?_
        refine x_callSN dX1_text_179 (con_X0_signOf (k := wv.2.1) hk12) (lw_meth q1776) q85 q1774 q1775 (np := 1) (by decide +kernel) rfl ⟨Nat.le_of_ble_eq_true rfl, Nat.le_of_ble_eq_true rfl⟩ (Nat.le_of_ble_eq_true rfl) rfl (Nat.zero_le _) (Nat.zero_le _) (rS ?_) nI'
        refine x_callV dX1_text_182 (con_J10_append_2 hS (c := sgL wv.2.1) (sgL_lt) (by simp only [List.length_append, List.length_cons, List.length_nil]; omega)) (lw_V q1770 q1510 q1511 q98 q1512) (np := 1) (by decide +kernel) rfl hS.rc ⟨Nat.le_of_ble_eq_true rfl, Nat.le_of_ble_eq_true rfl⟩ (Nat.le_of_ble_eq_true rfl) rfl (by omega) (by omega) (rA fun u_ σ42 h41 => ?_) nA'
        obtain ⟨hE_, sb43, N44, hS9, hK9⟩ := h41
        obtain rfl := hE_.symm
        have hwc := hK9.at hS hwc ⟨rfl, rfl⟩
        have hzI := hK9.at hS hzI ⟨rfl, rfl⟩
        have hR9 := hR.sk sbn hb1 hK9
        have hb1 := hK9.nn hR hb1
        have hR := hR9
        have hS := hS9
        have hS : SB σ42 sb sb43 N44 (numL s ++ [58] ++ holdL S s (nC S) ++ waitL S s (j + 1)) := by
          have h := hS
          rw [waitL_s hwv]
          rw [if_neg hj0]
          simp only [List.append_assoc] at h ⊢
          exact h
        have hL := hL0.ro hR
        refine x_pop dX1_text_185 rfl ?_
        refine x_iconst (v := nI 0) dX1_text_186 (by decide) ?_
        refine x_top (x' := (bI (j + 1 == 0))) (rfl) ?_
        refine x_istore_n (i := 3) (L' := [(3, .int (bI (j + 1 == 0))), (5, .ref x.2), (0, .ref a), (1, .int (nI s)), (2, .ref sb), (4, .ref z)]) dX1_text_187 rfl (by decide) rfl ?_
        refine x_goto (tgt := 128) dX1_text_188 (by decide) ?_
        refine x_locs (L' := [(0, .ref a), (1, .int (nI s)), (2, .ref sb), (3, .int (bI (j + 1 == 0))), (4, .ref z)]) [2, 3, 4, 0, 5] rfl ?_
        exact ih (j + 1) _ _ _ _ _ _ (by omega) hR hzI (by omega) (by omega) hS hb1
      · have c1 := bI_1 c1
        have hj0 : j = 0 := by simpa using c1
        refine x_ldcwS (i := 3) dX1_text_155 rfl ?_
        refine x_goto (tgt := 163) dX1_text_158 (by decide) ?_
        refine x_cst (fun hcst => ?_)
        refine x_callV dX1_text_163 (con_J10_append hS str3 (fun v h1 h2 hq => by rw [hcst 3 (by decide)] at hq; cases hq) (by simp only [List.length_append, List.length_cons, List.length_nil]; omega)) (lw_V q1773 q703 q704 q98 q705) (np := 1) (by decide +kernel) rfl hS.rc ⟨Nat.le_of_ble_eq_true rfl, Nat.le_of_ble_eq_true rfl⟩ (Nat.le_of_ble_eq_true rfl) rfl (by omega) (by omega) (rA fun u_ σ46 h45 => ?_) nA'
        obtain ⟨hE_, sb47, N48, hS9, hK9⟩ := h45
        obtain rfl := hE_.symm
        have hwc := hK9.at hS hwc ⟨rfl, rfl⟩
        have hzI := hK9.at hS hzI ⟨rfl, rfl⟩
        have hR9 := hR.sk sbn hb1 hK9
        have hb1 := hK9.nn hR hb1
        have hR := hR9
        have hS := hS9
        refine x_aload dX1_text_166 0 rfl ?_
        refine x_getN dX1_text_168 vC_4 in_X4 hwc 0 (by decide) q1078 rfl ?_
        refine x_callV dX1_text_171 (con_J10_append_3 hS (n := wv.1) (by omega) (by simp only [List.length_append, List.length_cons, List.length_nil]; omega)) (lw_V q1745 q1746 q1747 q98 q1748) (np := 1) (by decide +kernel) rfl hS.rc ⟨Nat.le_of_ble_eq_true rfl, Nat.le_of_ble_eq_true rfl⟩ (Nat.le_of_ble_eq_true rfl) rfl (by omega) (by omega) (rA fun u_ σ50 h49 => ?_) nA'
        obtain ⟨hE_, sb51, N52, hS9, hK9⟩ := h49
        obtain rfl := hE_.symm
        have hwc := hK9.at hS hwc ⟨rfl, rfl⟩
        have hzI := hK9.at hS hzI ⟨rfl, rfl⟩
        have hR9 := hR.sk sbn hb1 hK9
        have hb1 := hK9.nn hR hb1
        have hR := hR9
        have hS := hS9
        refine x_aload dX1_text_174 0 rfl ?_
        refine x_getN dX1_text_176 vC_4 in_X4 hwc 1 (by decide) q1081 rfl ?_
        refine x_callSN dX1_text_179 (con_X0_signOf (k := wv.2.1) hk12) (lw_meth q1776) q85 q1774 q1775 (np := 1) (by decide +kernel) rfl ⟨Nat.le_of_ble_eq_true rfl, Nat.le_of_ble_eq_true rfl⟩ (Nat.le_of_ble_eq_true rfl) rfl (Nat.zero_le _) (Nat.zero_le _) (rS ?_) nI'
        refine x_callV dX1_text_182 (con_J10_append_2 hS (c := sgL wv.2.1) (sgL_lt) (by simp only [List.length_append, List.length_cons, List.length_nil]; omega)) (lw_V q1770 q1510 q1511 q98 q1512) (np := 1) (by decide +kernel) rfl hS.rc ⟨Nat.le_of_ble_eq_true rfl, Nat.le_of_ble_eq_true rfl⟩ (Nat.le_of_ble_eq_true rfl) rfl (by omega) (by omega) (rA fun u_ σ55 h54 => ?_) nA'
        obtain ⟨hE_, sb56, N57, hS9, hK9⟩ := h54
        obtain rfl := hE_.symm
        have hwc := hK9.at hS hwc ⟨rfl, rfl⟩
        have hzI := hK9.at hS hzI ⟨rfl, rfl⟩
        have hR9 := hR.sk sbn hb1 hK9
        have hb1 := hK9.nn hR hb1
        have hR := hR9
        have hS := hS9
        have hS : SB σ55 sb sb56 N57 (numL s ++ [58] ++ holdL S s (nC S) ++ waitL S s (j + 1)) := by
          have h := hS
          rw [waitL_s hwv]
          rw [if_pos hj0]
          simp only [List.append_assoc] at h ⊢
          exact h
        have hL := hL0.ro hR
        refine x_pop dX1_text_185 rfl ?_
        refine x_iconst (v := nI 0) dX1_text_186 (by decide) ?_
        refine x_top (x' := (bI (j + 1 == 0))) (rfl) ?_
        refine x_istore_n (i := 3) (L' := [(3, .int (bI (j + 1 == 0))), (5, .ref x.2), (0, .ref a), (1, .int (nI s)), (2, .ref sb), (4, .ref z)]) dX1_text_187 rfl (by decide) rfl ?_
        refine x_goto (tgt := 128) dX1_text_188 (by decide) ?_
        refine x_locs (L' := [(0, .ref a), (1, .int (nI s)), (2, .ref sb), (3, .int (bI (j + 1 == 0))), (4, .ref z)]) [2, 3, 4, 0, 5] rfl ?_
        exact ih (j + 1) _ _ _ _ _ _ (by omega) hR hzI (by omega) (by omega) hS hb1
  | succ d ih =>
    intro j τ z k n b1 N1 hj hR hc hz hk0 hn0 hS hb1
    have hL := hL0.ro hR
    have ho := hL.o
    by_cases ht : tH S j = true
    · have hjC := hI.th ht
      have hC := hI.c
      have hfj : (decide (j ≤ j) && tH S j) = true := by rw [ht]; simp
      have hlo : ∀ i, i < j → (decide (j ≤ i) && tH S i) = false := fun i hi => by rw [decide_eq_false (by omega)]; rfl
      have hzn : z ≠ 0 := fun e => by have := hz.zero_iff.mp e j (by omega); rw [hfj] at this; cases this
      refine x_aload dX1_text_32 4 rfl ?_
      refine x_callF dX1_text_34 (con_X6_hasNext hc) (lw_F q509 q513 q515 q121 q517) q511 q510 q516 q514 q512 (np := 0) (by decide +kernel) rfl vC_6 hc ⟨Nat.le_of_ble_eq_true rfl, Nat.le_of_ble_eq_true rfl⟩ (Nat.le_of_ble_eq_true rfl) rfl (Nat.zero_le _) (Nat.zero_le _) (rS ?_) nI'
      refine x_top (x' := 1) (by rw [decide_eq_true hzn]; rfl) ?_
      refine x_if_eq (tgt := 110) dX1_text_39 (by decide) (fun h_ => absurd h_ (by decide)) (fun _ => ?_)
      refine x_aload dX1_text_42 4 rfl ?_
      have hcO := hc
      refine x_callF dX1_text_44 (con_X6_next hc hz (by omega) hfj hlo) (lw_F q555 q558 q560 q121 q562) q557 q556 q561 q559 q512 (np := 0) (by decide +kernel) rfl vC_6 hc ⟨Nat.le_of_ble_eq_true rfl, Nat.le_of_ble_eq_true rfl⟩ (Nat.le_of_ble_eq_true rfl) rfl (Nat.zero_le _) (Nat.zero_le _) (rA fun u σ60 h59 => ?_) nA'
      obtain ⟨rfl, hc, hbu⟩ := h59
      have hR := hR.nx bn hbu
      have hL := hL0.ro hR
      have ho := hL.o
      have hz := BS.stepT hz (by omega) hfj hlo
      refine x_ckcast dX1_text_49 q1211 (bx_rc (by omega)) ?_
      refine x_callV dX1_text_52 (con_J20_intValue (n := j) (by omega)) (lw_V q1212 q1213 q1214 q110 q1215) (np := 0) (by decide +kernel) rfl (bx_rc (by omega)) ⟨Nat.le_of_ble_eq_true rfl, Nat.le_of_ble_eq_true rfl⟩ (Nat.le_of_ble_eq_true rfl) rfl (Nat.zero_le _) (Nat.zero_le _) (rS ?_) nI'
      have hS := hS.nxz hcO ⟨rfl, rfl⟩ hbu
      have h2 := hI.2.2.1 j s
      have hhj := hhl j (by omega)
      have hnj := hnl j
      have hcx : c2T S 3 j = 3 := if_pos ht
      have hcx5 : c2T S 906 j = 906 := if_pos ht
      have hk1 : c2T S 3 j + su (c2T S 3) (j + 1) d + 27 ≤ k := hk0
      have hn1 : c2T S 906 j + su (c2T S 906) (j + 1) d + 7559 ≤ n := hn0
      refine x_istore (i := 5) (L' := [(5, .int (nI j)), (0, .ref a), (1, .int (nI s)), (2, .ref sb), (3, .int (bI (cn (heldF S s) j == 0))), (4, .ref b)]) dX1_text_55 (by decide) rfl ?_
      refine x_aload_n dX1_text_57 1 rfl rfl ?_
      refine x_get dX1_text_58 vC_1 in_X1 ho 0 (by decide) q277 rfl ?_
      refine x_iload dX1_text_61 0 rfl ?_
      obtain ⟨fh62, hh63, hv64⟩ := hL.2.1
      refine x_aald7 (N := 24) (j := j) dX1_text_63 hh63 rfl (by omega) (by decide) (hv64 _ (by omega)) ?_
      refine x_iload_n dX1_text_64 2 rfl rfl ?_
      obtain ⟨fr65, hr66, hw67⟩ := hL.row (m := j) (by omega)
      refine x_sald (N := 8) (j := s) (v := nI (hw S j s)) dX1_text_65 hr66 rfl (hs) (by decide) (hw67 _ (hs)) ?_
      refine x_if_eq (tgt := 107) dX1_text_66 (by decide) (fun c1 => ?_) (fun c1 => ?_)
      · have c1 := n0 (by omega) c1
        have hf : heldF S s j = false := by
          show (!(_ == 0)) = false
          simp [c1]
        have hs2 := cn_f0 hf
        have hS : SB σ60 sb b1 N1 (numL s ++ [58] ++ holdL S s (j + 1)) := by rw [holdL_s, if_pos c1, List.append_nil]; exact hS
        refine x_goto (tgt := 32) dX1_text_107 (by decide) ?_
        refine x_locs (L' := [(0, .ref a), (1, .int (nI s)), (2, .ref sb), (3, .int (bI (cn (heldF S s) j == 0))), (4, .ref b)]) [1, 2, 3, 4, 5] rfl ?_
        rw [← hs2]
        exact ih (j + 1) _ _ _ _ _ _ (by omega) hR hc hz (by omega) (by omega) hS hb1
      · have c1 := nN0 c1
        have hf : heldF S s j = true := by
          show (!(_ == 0)) = true
          simp [c1]
        have hs2 := cn_t hf
        refine x_aload_n dX1_text_69 3 rfl rfl ?_
        refine x_iload_n dX1_text_70 4 rfl rfl ?_
        refine x_if_eq (tgt := 79) dX1_text_71 (by decide) (fun c3 => ?_) (fun c3 => ?_)
        · have c3 := bI_0 c3
          have hj0 : ¬ cn (heldF S s) j = 0 := by simpa using c3
          refine x_ldcS (i := 2) dX1_text_79 rfl ?_
          refine x_cst (fun hcst => ?_)
          refine x_callV dX1_text_81 (con_J10_append hS str2 (fun v h1 h2 hq => by rw [hcst 2 (by decide)] at hq; cases hq) (by simp only [List.length_append, List.length_cons, List.length_nil]; omega)) (lw_V q1773 q703 q704 q98 q705) (np := 1) (by decide +kernel) rfl hS.rc ⟨Nat.le_of_ble_eq_true rfl, Nat.le_of_ble_eq_true rfl⟩ (Nat.le_of_ble_eq_true rfl) rfl (by omega) (by omega) (rA fun u_ σ69 h68 => ?_) nA'
          obtain ⟨hE_, sb70, N71, hS9, hK9⟩ := h68
          obtain rfl := hE_.symm
          have hc := hK9.at hS hc ⟨rfl, rfl⟩
          have hR9 := hR.sk sbn hb1 hK9
          have hb1 := hK9.nn hR hb1
          have hR := hR9
          have hS := hS9
          refine x_iload dX1_text_84 0 rfl ?_
          refine x_callV dX1_text_86 (con_J10_append_3 hS (n := j) (by omega) (by simp only [List.length_append, List.length_cons, List.length_nil]; omega)) (lw_V q1745 q1746 q1747 q98 q1748) (np := 1) (by decide +kernel) rfl hS.rc ⟨Nat.le_of_ble_eq_true rfl, Nat.le_of_ble_eq_true rfl⟩ (Nat.le_of_ble_eq_true rfl) rfl (by omega) (by omega) (rA fun u_ σ73 h72 => ?_) nA'
          obtain ⟨hE_, sb74, N75, hS9, hK9⟩ := h72
          obtain rfl := hE_.symm
          have hc := hK9.at hS hc ⟨rfl, rfl⟩
          have hR9 := hR.sk sbn hb1 hK9
          have hb1 := hK9.nn hR hb1
          have hR := hR9
          have hS := hS9
          have hL := hL0.ro hR
          have ho := hL.o
          refine x_aload_n dX1_text_89 1 rfl rfl ?_
          refine x_get dX1_text_90 vC_1 in_X1 ho 0 (by decide) q277 rfl ?_
          refine x_iload dX1_text_93 0 rfl ?_
          obtain ⟨fh76, hh77, hv78⟩ := hL.2.1
          refine x_aald7 (N := 24) (j := j) dX1_text_95 hh77 rfl (by omega) (by decide) (hv78 _ (by omega)) ?_
          refine x_iload_n dX1_text_96 2 rfl rfl ?_
          obtain ⟨fr79, hr80, hw81⟩ := hL.row (m := j) (by omega)
          refine x_sald (N := 8) (j := s) (v := nI (hw S j s)) dX1_text_97 hr80 rfl (hs) (by decide) (hw81 _ (hs)) ?_
          refine x_callSN dX1_text_98 (con_X0_signOf (k := hw S j s) (by omega)) (lw_meth q1776) q85 q1774 q1775 (np := 1) (by decide +kernel) rfl ⟨Nat.le_of_ble_eq_true rfl, Nat.le_of_ble_eq_true rfl⟩ (Nat.le_of_ble_eq_true rfl) rfl (Nat.zero_le _) (Nat.zero_le _) (rS ?_) nI'
          refine x_callV dX1_text_101 (con_J10_append_2 hS (c := sgL (hw S j s)) (sgL_lt) (by simp only [List.length_append, List.length_cons, List.length_nil]; omega)) (lw_V q1770 q1510 q1511 q98 q1512) (np := 1) (by decide +kernel) rfl hS.rc ⟨Nat.le_of_ble_eq_true rfl, Nat.le_of_ble_eq_true rfl⟩ (Nat.le_of_ble_eq_true rfl) rfl (by omega) (by omega) (rA fun u_ σ84 h83 => ?_) nA'
          obtain ⟨hE_, sb85, N86, hS9, hK9⟩ := h83
          obtain rfl := hE_.symm
          have hc := hK9.at hS hc ⟨rfl, rfl⟩
          have hR9 := hR.sk sbn hb1 hK9
          have hb1 := hK9.nn hR hb1
          have hR := hR9
          have hS := hS9
          have hS : SB σ84 sb sb85 N86 (numL s ++ [58] ++ holdL S s (j + 1)) := by
            have h := hS
            rw [holdL_s, if_neg c1]
            rw [if_neg hj0]
            simp only [List.append_assoc, List.nil_append, List.append_nil] at h ⊢
            exact h
          have hfz : nI 0 = bI (cn (heldF S s) (j + 1) == 0) := by rw [hs2]; simp [bI]; rfl
          refine x_pop dX1_text_104 rfl ?_
          refine x_iconst (v := nI 0) dX1_text_105 (by decide) ?_
          refine x_top (x' := (bI (cn (heldF S s) (j + 1) == 0))) (hfz) ?_
          refine x_istore_n (i := 3) (L' := [(3, .int (bI (cn (heldF S s) (j + 1) == 0))), (5, .int (nI j)), (0, .ref a), (1, .int (nI s)), (2, .ref sb), (4, .ref b)]) dX1_text_106 rfl (by decide) rfl ?_
          refine x_goto (tgt := 32) dX1_text_107 (by decide) ?_
          refine x_locs (L' := [(0, .ref a), (1, .int (nI s)), (2, .ref sb), (3, .int (bI (cn (heldF S s) (j + 1) == 0))), (4, .ref b)]) [2, 3, 4, 0, 5] rfl ?_
          exact ih (j + 1) _ _ _ _ _ _ (by omega) hR hc hz (by omega) (by omega) hS hb1
        · have c3 := bI_1 c3
          have hj0 : cn (heldF S s) j = 0 := by simpa using c3
          refine x_ldcS (i := 1) dX1_text_74 rfl ?_
          refine x_goto (tgt := 81) dX1_text_76 (by decide) ?_
          refine x_cst (fun hcst => ?_)
          refine x_callV dX1_text_81 (con_J10_append hS str1 (fun v h1 h2 hq => by rw [hcst 1 (by decide)] at hq; cases hq) (by simp only [List.length_append, List.length_cons, List.length_nil]; omega)) (lw_V q1773 q703 q704 q98 q705) (np := 1) (by decide +kernel) rfl hS.rc ⟨Nat.le_of_ble_eq_true rfl, Nat.le_of_ble_eq_true rfl⟩ (Nat.le_of_ble_eq_true rfl) rfl (by omega) (by omega) (rA fun u_ σ88 h87 => ?_) nA'
          obtain ⟨hE_, sb89, N90, hS9, hK9⟩ := h87
          obtain rfl := hE_.symm
          have hc := hK9.at hS hc ⟨rfl, rfl⟩
          have hR9 := hR.sk sbn hb1 hK9
          have hb1 := hK9.nn hR hb1
          have hR := hR9
          have hS := hS9
          refine x_iload dX1_text_84 0 rfl ?_
          refine x_callV dX1_text_86 (con_J10_append_3 hS (n := j) (by omega) (by simp only [List.length_append, List.length_cons, List.length_nil]; omega)) (lw_V q1745 q1746 q1747 q98 q1748) (np := 1) (by decide +kernel) rfl hS.rc ⟨Nat.le_of_ble_eq_true rfl, Nat.le_of_ble_eq_true rfl⟩ (Nat.le_of_ble_eq_true rfl) rfl (by omega) (by omega) (rA fun u_ σ92 h91 => ?_) nA'
          obtain ⟨hE_, sb93, N94, hS9, hK9⟩ := h91
          obtain rfl := hE_.symm
          have hc := hK9.at hS hc ⟨rfl, rfl⟩
          have hR9 := hR.sk sbn hb1 hK9
          have hb1 := hK9.nn hR hb1
          have hR := hR9
          have hS := hS9
          have hL := hL0.ro hR
          have ho := hL.o
          refine x_aload_n dX1_text_89 1 rfl rfl ?_
          refine x_get dX1_text_90 vC_1 in_X1 ho 0 (by decide) q277 rfl ?_
          refine x_iload dX1_text_93 0 rfl ?_
          obtain ⟨fh95, hh96, hv97⟩ := hL.2.1
          refine x_aald7 (N := 24) (j := j) dX1_text_95 hh96 rfl (by omega) (by decide) (hv97 _ (by omega)) ?_
          refine x_iload_n dX1_text_96 2 rfl rfl ?_
          obtain ⟨fr98, hr99, hw100⟩ := hL.row (m := j) (by omega)
          refine x_sald (N := 8) (j := s) (v := nI (hw S j s)) dX1_text_97 hr99 rfl (hs) (by decide) (hw100 _ (hs)) ?_
          refine x_callSN dX1_text_98 (con_X0_signOf (k := hw S j s) (by omega)) (lw_meth q1776) q85 q1774 q1775 (np := 1) (by decide +kernel) rfl ⟨Nat.le_of_ble_eq_true rfl, Nat.le_of_ble_eq_true rfl⟩ (Nat.le_of_ble_eq_true rfl) rfl (Nat.zero_le _) (Nat.zero_le _) (rS ?_) nI'
          refine x_callV dX1_text_101 (con_J10_append_2 hS (c := sgL (hw S j s)) (sgL_lt) (by simp only [List.length_append, List.length_cons, List.length_nil]; omega)) (lw_V q1770 q1510 q1511 q98 q1512) (np := 1) (by decide +kernel) rfl hS.rc ⟨Nat.le_of_ble_eq_true rfl, Nat.le_of_ble_eq_true rfl⟩ (Nat.le_of_ble_eq_true rfl) rfl (by omega) (by omega) (rA fun u_ σ103 h102 => ?_) nA'
          obtain ⟨hE_, sb104, N105, hS9, hK9⟩ := h102
          obtain rfl := hE_.symm
          have hc := hK9.at hS hc ⟨rfl, rfl⟩
          have hR9 := hR.sk sbn hb1 hK9
          have hb1 := hK9.nn hR hb1
          have hR := hR9
          have hS := hS9
          have hS : SB σ103 sb sb104 N105 (numL s ++ [58] ++ holdL S s (j + 1)) := by
            have h := hS
            rw [holdL_s, if_neg c1]
            rw [if_pos hj0]
            simp only [List.append_assoc, List.nil_append, List.append_nil] at h ⊢
            exact h
          have hfz : nI 0 = bI (cn (heldF S s) (j + 1) == 0) := by rw [hs2]; simp [bI]; rfl
          refine x_pop dX1_text_104 rfl ?_
          refine x_iconst (v := nI 0) dX1_text_105 (by decide) ?_
          refine x_top (x' := (bI (cn (heldF S s) (j + 1) == 0))) (hfz) ?_
          refine x_istore_n (i := 3) (L' := [(3, .int (bI (cn (heldF S s) (j + 1) == 0))), (5, .int (nI j)), (0, .ref a), (1, .int (nI s)), (2, .ref sb), (4, .ref b)]) dX1_text_106 rfl (by decide) rfl ?_
          refine x_goto (tgt := 32) dX1_text_107 (by decide) ?_
          refine x_locs (L' := [(0, .ref a), (1, .int (nI s)), (2, .ref sb), (3, .int (bI (cn (heldF S s) (j + 1) == 0))), (4, .ref b)]) [2, 3, 4, 0, 5] rfl ?_
          exact ih (j + 1) _ _ _ _ _ _ (by omega) hR hc hz (by omega) (by omega) hS hb1
    · have hf : tH S j = false := by cases h : tH S j; rfl; exact absurd h ht
      have hk1 : c2T S 3 j + su (c2T S 3) (j + 1) d + 27 ≤ k := hk0
      have hn1 : c2T S 906 j + su (c2T S 906) (j + 1) d + 7559 ≤ n := hn0
      have h0 : hw S j s = 0 := by
        by_cases e : hw S j s = 0
        · exact e
        · rw [hI.2.2.2.1 j s e] at hf; cases hf
      have hs2 := cn_f0 (held_f hI (s := s) hf)
      have hS : SB τ sb b1 N1 (numL s ++ [58] ++ holdL S s (j + 1)) := by rw [holdL_s, if_pos h0, List.append_nil]; exact hS
      rw [← hs2]
      exact ih (j + 1) _ _ _ _ _ _ (by omega) hR hc (hz.stepF hf) (by omega) (by omega) hS hb1
