set_option maxRecDepth 100000
-- ===== whom one waits for =====
/-- what asking it costs -/
def wC (S : AS) (m : Nat) : Nat := if (aAt S m).isSome then 18 else 8
theorem wC_n {S : AS} {m : Nat} (h : aAt S m = none) : wC S m = 8 := by unfold wC; rw [h]; rfl
theorem wC_s {S : AS} {m s : Nat} (h : aAt S m = some s) : wC S m = 18 := by unfold wC; rw [h]; rfl
theorem wC_le {S : AS} {m : Nat} : 8 ≤ wC S m ∧ wC S m ≤ 18 := by unfold wC; split <;> omega
def eHold (S : AS) (s m : Nat) (o : Nat) : Bool := !(o == m) && (hw S o s == 2 || (hw S o s == 1 && kindOf S m == 2))
def eUp (S : AS) (s m i : Nat) : Nat → Bool := fun o => decide (o < i) && eHold S s m o
theorem eUp_t {S : AS} {s m i : Nat} (h : eHold S s m i = true) : fset (eUp S s m i) i true = eUp S s m (i + 1) := by
  funext x
  unfold fset eUp
  by_cases e : x = i
  · subst e; rw [if_pos rfl, h]; simp
  · rw [if_neg e]
    have : decide (x < i) = decide (x < i + 1) := decide_eq_decide.mpr (by omega)
    rw [this]
theorem eUp_f {S : AS} {s m i : Nat} (h : eHold S s m i = false) : eUp S s m i = eUp S s m (i + 1) := by
  funext x
  unfold eUp
  by_cases e : x = i
  · subst e; rw [h]; simp
  · have : decide (x < i) = decide (x < i + 1) := decide_eq_decide.mpr (by omega)
    rw [this]
def eRow (g : Nat → Bool) (r : List Wi) (j : Nat) : Nat → Bool := fun o => g o || (r.take j).any (fun w => w.1 == o)
theorem eRow_0 {g : Nat → Bool} {r : List Wi} : eRow g r 0 = g := by funext o; unfold eRow; simp
theorem eRow_s {g : Nat → Bool} {r : List Wi} {j : Nat} {w : Wi} (h : r[j]? = some w) : fset (eRow g r j) w.1 true = eRow g r (j + 1) := by
  funext x
  unfold fset eRow
  rw [List.take_add_one, h]
  by_cases e : x = w.1
  · rw [if_pos e]; simp [e]
  · have h9 : (w.1 == x) = false := by simp; exact fun z => e z.symm
    rw [if_neg e]; simp [h9]
theorem aheadL_take {m : Nat} : ∀ (r : List Wi) (j : Nat) (w : Wi), (∀ i v, i < j → r[i]? = some v → v.1 ≠ m) → r[j]? = some w → w.1 = m → aheadL m r = (r.take j).map (fun v => v.1) := by
  intro r
  induction r with
  | nil => intro j w _ h; cases h
  | cons x xs ih =>
    intro j w h1 h2 h3
    cases j with
    | zero =>
      cases h2
      show (if x.1 = m then [] else _) = _
      rw [if_pos h3]; rfl
    | succ j =>
      have hx : x.1 ≠ m := h1 0 x (by omega) rfl
      show (if x.1 = m then [] else x.1 :: aheadL m xs) = _
      rw [if_neg hx, ih j w (fun i v hi hv => h1 (i + 1) v (by omega) hv) h2 h3]; rfl
theorem eRow_end {S : AS} {m s j : Nat} {w : Wi} (hat : aAt S m = some s) (h1 : ∀ i v, i < j → (qu S s)[i]? = some v → v.1 ≠ m) (h2 : (qu S s)[j]? = some w) (h3 : w.1 = m) : eRow (eUp S s m (nC S)) (qu S s) j = edge S m := by
  funext o
  rw [edge_at hat, aheadL_take _ j w h1 h2 h3]
  unfold eRow eUp eHold
  have e1 : ((qu S s).take j).any (fun w => w.1 == o) = (((qu S s).take j).map (fun v => v.1)).contains o := by
    rw [Bool.eq_iff_iff, List.any_eq_true, List.contains_iff_mem, List.mem_map]
    constructor
    · rintro ⟨x, hx, he⟩; exact ⟨x, hx, by simpa using he⟩
    · rintro ⟨x, hx, he⟩; exact ⟨x, hx, by simpa using he⟩
  rw [e1]
  cases decide (o < nC S) <;> simp
theorem edge_0 {S : AS} {m : Nat} (h : aAt S m = none) : encB (edge S m) = 0 := by
  have : edge S m = fun _ => false := by funext o; exact edge_none h
  rw [this]; exact BS.zero.enc.symm
theorem kind_row {S : AS} {m s : Nat} {w : Wi} (hat : aAt S m = some s) (hw : aWish S m = some w) : kindOf S m = w.2.1 := by unfold kindOf; rw [hw]
set_option maxHeartbeats 4000000 in
set_option maxRecDepth 100000 in
theorem con_X1_waitsForWhom {l : Launch} {G : YG} {σ : AH} {a : Nat} {ad : Nat → Nat} {N : Nat → NL} {mc : Nat → Int32} {S : AS} {m : Nat} (hL : LD σ a ad N mc S) (hI : IV S) (hm : m < 24) : Con l yX1_waitsForWhom cX1_waitsForWhom 7 (some FieldType.int) G 8 (wC S m) (5 * wC S m) [.ref a, .int (nI m)] σ (PRO σ (encB (edge S m))) := by
  refine con_of (by decide) (Nat.le_of_ble_eq_true rfl) ?_
  refine x_locs (L' := [(0, .ref a), (1, .int (nI m))]) [0, 1] rfl ?_
  have ho := hL.o
  have hC := hI.c
  have hL0 := hL
  cases hat : aAt S m with
  | none =>
    have hwc := wC_n hat
    refine x_aload_n dX1_waitsForWhom_0 0 rfl rfl ?_
    refine x_iload_n dX1_waitsForWhom_1 1 rfl rfl ?_
    refine x_callV dX1_waitsForWhom_2 (con_X1_wishOf0 hL hI hm hat) (lw_V q1224 q1226 qs21 q86 q1227) (np := 1) (by decide +kernel) rfl (rcv_of vC_1 ho) ⟨Nat.le_of_ble_eq_true rfl, Nat.le_of_ble_eq_true rfl⟩ (Nat.le_of_ble_eq_true rfl) rfl (by omega) (by omega) (rN fun σ1 hR => ?_) nN'
    refine x_astore_nN (i := 2) (L' := [(2, .null), (0, .ref a), (1, .int (nI m))]) dX1_waitsForWhom_5 rfl (by decide) rfl ?_
    refine x_aload_nN dX1_waitsForWhom_6 0 rfl rfl ?_
    refine x_ifnonnullN dX1_waitsForWhom_7 ?_
    refine x_iconst (v := nI 0) dX1_waitsForWhom_10 (by decide) ?_
    exact x_iret dX1_waitsForWhom_11 rfl (pRo (edge_0 hat).symm hR)
  | some s =>
    have hwc := wC_s hat
    have hs := (aAt_some hat).1
    obtain ⟨w, hww⟩ := (aAt_some hat).2
    have hwi0 : aWish S m = some w := by unfold aWish; rw [hat]; exact hww
    have hkd := kind_row hat hwi0
    have hwm := wishIn_some hww
    have hwr := hI.w hs hwm.1
    have hk12 := hwr.2.1
    refine x_aload_n dX1_waitsForWhom_0 0 rfl rfl ?_
    refine x_iload_n dX1_waitsForWhom_1 1 rfl rfl ?_
    refine x_callV dX1_waitsForWhom_2 (con_X1_wishOf1 hL hI hm hat hwi0) (lw_V q1224 q1226 qs21 q86 q1227) (np := 1) (by decide +kernel) rfl (rcv_of vC_1 ho) ⟨Nat.le_of_ble_eq_true rfl, Nat.le_of_ble_eq_true rfl⟩ (Nat.le_of_ble_eq_true rfl) rfl (by omega) (by omega) (rA fun b σ2 hb => ?_) nA'
    obtain ⟨hbc0, hR⟩ := hb
    have hL := hL.ro (hR)
    have ho := hL.o
    have hbc := hbc0
    refine x_astore_n (i := 2) (L' := [(2, .ref b), (0, .ref a), (1, .int (nI m))]) dX1_waitsForWhom_5 rfl (by decide) rfl ?_
    refine x_aload_n dX1_waitsForWhom_6 0 rfl rfl ?_
    refine x_ifnonnull (tgt := 12) dX1_waitsForWhom_7 (by decide) ?_
    refine x_aload_n dX1_waitsForWhom_12 1 rfl rfl ?_
    refine x_iload_n dX1_waitsForWhom_13 2 rfl rfl ?_
    refine x_callV dX1_waitsForWhom_14 (con_X1_waitsFor hL hI hm) (lw_V q1068 q1069 q1070 q86 q1071) (np := 1) (by decide +kernel) rfl (rcv_of vC_1 ho) ⟨Nat.le_of_ble_eq_true rfl, Nat.le_of_ble_eq_true rfl⟩ (Nat.le_of_ble_eq_true rfl) rfl (by omega) (by omega) (rP fun σ3 hR2 => ?_) nI'
    have hL := hL.ro (hR2)
    have ho := hL.o
    have hbc := (hR2) _ _ hbc
    have hR := hR.tr hR2
    refine x_top (x' := nI s) (atV_some hat) ?_
    refine x_istore_n (i := 3) (L' := [(3, .int (nI s)), (2, .ref b), (0, .ref a), (1, .int (nI m))]) dX1_waitsForWhom_17 rfl (by decide) rfl ?_
    refine x_iconst (v := nI 0) dX1_waitsForWhom_18 (by decide) ?_
    refine x_istore (i := 4) (L' := [(4, .int (nI 0)), (3, .int (nI s)), (2, .ref b), (0, .ref a), (1, .int (nI m))]) dX1_waitsForWhom_19 (by decide) rfl ?_
    refine x_iconst (v := nI 0) dX1_waitsForWhom_21 (by decide) ?_
    refine x_istore (i := 5) (L' := [(5, .int (nI 0)), (4, .int (nI 0)), (3, .int (nI s)), (2, .ref b), (0, .ref a), (1, .int (nI m))]) dX1_waitsForWhom_22 (by decide) rfl ?_
    have hbs : σ3 b = _ := hbc
    have hRs : RO σ σ3 := hR
    refine x_locs (L' := [(0, .ref a), (1, .int (nI m)), (2, .ref b), (3, .int (nI s)), (4, .int (nI 0)), (5, .int (nI 0))]) [4, 5, 3, 2, 1, 0] rfl ?_
    have he0 : nI 0 = encB (eUp S s m 0) := by
      have : eUp S s m 0 = fun _ => false := by funext o; unfold eUp; simp
      rw [this]; exact BS.zero.enc
    suffices loop : ∀ (d i : Nat) (k n : Nat), i + d = nC S → 1 ≤ k → 5 ≤ n → X l yX1_waitsForWhom cX1_waitsForWhom 7 (some FieldType.int) [] G (yroom 8 (wC S m) (5 * wC S m)) (yEnd G (yroom 8 (wC S m) (5 * wC S m)) (PRO σ (encB (edge S m)))) 24 [(0, .ref a), (1, .int (nI m)), (2, .ref b), (3, .int (nI s)), (4, .int (encB (eUp S s m i))), (5, .int (nI i))] [] σ3 k n from by
      have := loop (nC S) 0 _ _ (Nat.zero_add _) (show 1 ≤ wC S m - 9 - 8 by omega) (show 5 ≤ 5 * wC S m - 45 - 40 by omega)
      rw [← he0] at this
      exact this
    intro d
    induction d with
    | zero =>
      intro i k n hi hk0 hn0
      have hin : i = nC S := by omega
      subst hin
      refine x_iload dX1_waitsForWhom_24 5 rfl ?_
      refine x_aload_n dX1_waitsForWhom_26 0 rfl rfl ?_
      refine x_get dX1_waitsForWhom_27 vC_1 in_X1 ho 8 (by decide) q290 rfl ?_
      refine x_icmp_ge (tgt := 103) dX1_waitsForWhom_30 (by decide) (fun _ => ?_) (fun h_ => absurd ((nI_leI (by omega) (by omega)).mpr (Nat.le_refl _)) h_)
      refine x_aload_n dX1_waitsForWhom_103 0 rfl rfl ?_
      refine x_get dX1_waitsForWhom_104 vC_1 in_X1 ho 1 (by decide) q279 rfl ?_
      refine x_iload_n dX1_waitsForWhom_107 3 rfl rfl ?_
      refine x_callV dX1_waitsForWhom_108 (con_J2_get hL.al (lYs_at hs)) (lw_V q407 q408 q409 q89 q410) (np := 1) (by decide +kernel) rfl hL.al.rc ⟨Nat.le_of_ble_eq_true rfl, Nat.le_of_ble_eq_true rfl⟩ (Nat.le_of_ble_eq_true rfl) rfl (Nat.zero_le _) (Nat.zero_le _) (rSA ?_) nA'
      refine x_ckcast dX1_waitsForWhom_111 q183 (hL.ll hs).rc ?_
      refine x_callU dX1_waitsForWhom_114 (con_J3_iterator (hL.ll hs)) (lw_U q421 q422 q424 q425 q90 q426) rfl (np := 0) (by decide +kernel) rfl (hL.ll hs).rc ⟨Nat.le_of_ble_eq_true rfl, Nat.le_of_ble_eq_true rfl⟩ (Nat.le_of_ble_eq_true rfl) rfl (by omega) (by omega) (rA fun z σ5 hi4 => ?_) nA'
      obtain ⟨zn, zI, zR⟩ := hi4
      have hL := hL.ro (zR)
      have ho := hL.o
      have hbc := (zR) _ _ hbc
      have zn : σ z = none := hR.nn zn
      have hR := hR.tr zR
      refine x_astore (i := 5) (L' := [(5, .ref z), (0, .ref a), (1, .int (nI m)), (2, .ref b), (3, .int (nI s)), (4, .int (encB (eUp S s m (nC S))))]) dX1_waitsForWhom_117 (by decide) rfl ?_
      refine x_locs (L' := [(0, .ref a), (1, .int (nI m)), (4, .int (encB (eUp S s m (nC S)))), (5, .ref z)]) [1, 2, 5, 0] rfl ?_
      rw [← eRow_0 (g := eUp S s m (nC S)) (r := qu S s)]
      suffices loop : ∀ (d j : Nat) (τ : AH) (la : Option Nat) (k n : Nat), j + d = (qu S s).length → RO σ τ → LI τ z (ad (10 + s)) (mc s) (N s) j la → (∀ i w, i < j → (qu S s)[i]? = some w → w.1 ≠ m) → 0 ≤ k → 0 ≤ n → X l yX1_waitsForWhom cX1_waitsForWhom 7 (some FieldType.int) [] G (yroom 8 (wC S m) (5 * wC S m)) (yEnd G (yroom 8 (wC S m) (5 * wC S m)) (PRO σ (encB (edge S m)))) 119 [(0, .ref a), (1, .int (nI m)), (4, .int (encB (eRow (eUp S s m (nC S)) (qu S s) j))), (5, .ref z)] [] τ k n from loop _ 0 _ none _ _ (Nat.zero_add _) (hR) zI (fun i w hi => absurd hi (Nat.not_lt_zero i)) (by omega) (by omega)
      intro d
      induction d with
      | zero =>
        intro j τ la k n hj hR hz hiv hk0 hn0
        have hL := hL0.ro hR
        have ho := hL.o
        have hjl : j = (qu S s).length := by omega
        have hNl := (hL.wr hs).1
        refine x_aload dX1_waitsForWhom_119 3 rfl ?_
        refine x_callF dX1_waitsForWhom_121 (con_J18_hasNext (hL.ll hs) hz (by omega)) (lw_F q509 q549 q551 q108 q553) q511 q510 q552 q550 q548 (np := 0) (by decide +kernel) rfl vC_13 hz ⟨Nat.le_of_ble_eq_true rfl, Nat.le_of_ble_eq_true rfl⟩ (Nat.le_of_ble_eq_true rfl) rfl (Nat.zero_le _) (Nat.zero_le _) (rS ?_) nI'
        refine x_top (x' := 0) (by rw [decide_eq_false (by omega)]; rfl) ?_
        refine x_if_eq (tgt := 168) dX1_waitsForWhom_126 (by decide) (fun _ => ?_) (fun h_ => absurd (rfl) h_)
        have := row_none hjl hiv
        rw [hww] at this
        cases this
      | succ d ih =>
        intro j τ la k n hj hR hz hiv hk0 hn0
        have hL := hL0.ro hR
        have ho := hL.o
        have hNl := (hL.wr hs).1
        obtain ⟨x, hx⟩ : ∃ x, (N s)[j]? = some x := ⟨_, List.getElem?_eq_getElem (by omega)⟩
        obtain ⟨wv, hwv⟩ : ∃ wv, (qu S s)[j]? = some wv := ⟨_, List.getElem?_eq_getElem (by omega)⟩
        have hwc := (hL.wr hs).2 j x wv hx hwv
        have hwi := hI.w hs (List.mem_of_getElem? hwv)
        have hwC := hI.th hwi.1
        have hC := hI.c
        refine x_aload dX1_waitsForWhom_119 3 rfl ?_
        refine x_callF dX1_waitsForWhom_121 (con_J18_hasNext (hL.ll hs) hz (by omega)) (lw_F q509 q549 q551 q108 q553) q511 q510 q552 q550 q548 (np := 0) (by decide +kernel) rfl vC_13 hz ⟨Nat.le_of_ble_eq_true rfl, Nat.le_of_ble_eq_true rfl⟩ (Nat.le_of_ble_eq_true rfl) rfl (Nat.zero_le _) (Nat.zero_le _) (rS ?_) nI'
        refine x_top (x' := 1) (by rw [decide_eq_true (by omega)]; rfl) ?_
        refine x_if_eq (tgt := 168) dX1_waitsForWhom_126 (by decide) (fun h_ => absurd h_ (by decide)) (fun _ => ?_)
        refine x_aload dX1_waitsForWhom_129 3 rfl ?_
        refine x_callF dX1_waitsForWhom_131 (con_J18_next (hL.ll hs) hz hx) (lw_F q555 q905 q907 q108 q909) q557 q556 q908 q906 q548 (np := 0) (by decide +kernel) rfl vC_13 hz ⟨Nat.le_of_ble_eq_true rfl, Nat.le_of_ble_eq_true rfl⟩ (Nat.le_of_ble_eq_true rfl) rfl (Nat.zero_le _) (Nat.zero_le _) (rA fun u σ9 h8 => ?_) nA'
        obtain ⟨rfl, hz, zU⟩ := h8
        have hR := hR.nx zn zU
        have hL := hL0.ro hR
        have ho := hL.o
        have hwc := (hL.wr hs).2 j x wv hx hwv
        refine x_ckcast dX1_waitsForWhom_136 q915 (rcv_of vC_4 hwc) ?_
        refine x_astore (i := 6) (L' := [(6, .ref x.2), (0, .ref a), (1, .int (nI m)), (4, .int (encB (eRow (eUp S s m (nC S)) (qu S s) j))), (5, .ref z)]) dX1_waitsForWhom_139 (by decide) rfl ?_
        refine x_aload dX1_waitsForWhom_141 0 rfl ?_
        refine x_getN dX1_waitsForWhom_143 vC_4 in_X4 hwc 0 (by decide) q1078 rfl ?_
        refine x_iload_n dX1_waitsForWhom_146 2 rfl rfl ?_
        refine x_icmp_ne (tgt := 153) dX1_waitsForWhom_147 (by decide) (fun c1 => ?_) (fun c1 => ?_)
        · have c1 := nNe (by omega) (by omega) c1
          refine x_iload dX1_waitsForWhom_153 3 rfl ?_
          refine x_iconst (v := nI 1) dX1_waitsForWhom_155 (by decide) ?_
          refine x_aload dX1_waitsForWhom_156 0 rfl ?_
          refine x_getN dX1_waitsForWhom_158 vC_4 in_X4 hwc 0 (by decide) q1078 rfl ?_
          refine x_ishl dX1_waitsForWhom_161 ?_
          refine x_ior dX1_waitsForWhom_162 ?_
          refine x_top (x' := (encB (eRow (eUp S s m (nC S)) (qu S s) (j + 1)))) (by rw [← eRow_s hwv]; exact BS.set (encB_BS _) (by omega)) ?_
          refine x_istore (i := 4) (L' := [(4, .int (encB (eRow (eUp S s m (nC S)) (qu S s) (j + 1)))), (6, .ref x.2), (0, .ref a), (1, .int (nI m)), (5, .ref z)]) dX1_waitsForWhom_163 (by decide) rfl ?_
          refine x_goto (tgt := 119) dX1_waitsForWhom_165 (by decide) ?_
          refine x_locs (L' := [(0, .ref a), (1, .int (nI m)), (4, .int (encB (eRow (eUp S s m (nC S)) (qu S s) (j + 1)))), (5, .ref z)]) [2, 3, 0, 4] rfl ?_
          exact ih (j + 1) _ _ _ _ (by omega) hR hz (row_step hiv hwv c1) (by omega) (by omega)
        · have c1 := nEq (by omega) (by omega) c1
          refine x_goto (tgt := 168) dX1_waitsForWhom_150 (by decide) ?_
          refine x_iload dX1_waitsForWhom_168 3 rfl ?_
          exact x_iret dX1_waitsForWhom_170 rfl (pRo (by rw [eRow_end hat hiv hwv c1]) hR)
    | succ d ih =>
      intro i k n hi hk0 hn0
      have hiC : i < nC S := by omega
      have h2 := hI.2.2.1 i s
      refine x_iload dX1_waitsForWhom_24 5 rfl ?_
      refine x_aload_n dX1_waitsForWhom_26 0 rfl rfl ?_
      refine x_get dX1_waitsForWhom_27 vC_1 in_X1 ho 8 (by decide) q290 rfl ?_
      refine x_icmp_ge (tgt := 103) dX1_waitsForWhom_30 (by decide) (fun h_ => absurd h_ (fun h => absurd (nLe (by omega) (by omega) h) (by omega))) (fun _ => ?_)
      refine x_aload_n dX1_waitsForWhom_33 2 rfl rfl ?_
      refine x_getN dX1_waitsForWhom_34 vC_4 in_X4 hbc 1 (by decide) q1081 rfl ?_
      refine x_iconst (v := nI 1) dX1_waitsForWhom_37 (by decide) ?_
      refine x_icmp_ne (tgt := 58) dX1_waitsForWhom_38 (by decide) (fun c1 => ?_) (fun c1 => ?_)
      · have c1 := nNe (by omega) (by decide) c1
        have hsh : w.2.1 ≠ 1 ∨ hw S i s ≠ 1 := Or.inl c1
        refine x_iconst (v := nI 0) dX1_waitsForWhom_58 (by decide) ?_
        refine x_istore (i := 6) (L' := [(6, .int (nI 0)), (0, .ref a), (1, .int (nI m)), (2, .ref b), (3, .int (nI s)), (4, .int (encB (eUp S s m i))), (5, .int (nI i))]) dX1_waitsForWhom_59 (by decide) rfl ?_
        refine x_iload dX1_waitsForWhom_61 5 rfl ?_
        refine x_iload dX1_waitsForWhom_63 6 rfl ?_
        refine x_iload_n dX1_waitsForWhom_65 2 rfl rfl ?_
        refine x_icmp_eq (tgt := 93) dX1_waitsForWhom_66 (by decide) (fun c3 => ?_) (fun c3 => ?_)
        · have c3 : i = m := nEq (by omega) (by omega) c3
          have hE : eHold S s m i = false := by unfold eHold; rw [c3]; simp
          refine x_iconst (v := nI 0) dX1_waitsForWhom_93 (by decide) ?_
          refine x_ior dX1_waitsForWhom_94 ?_
          refine x_top (x' := (encB (eUp S s m (i + 1)))) (by rw [← eUp_f hE, nI_0, Int32.or_zero]) ?_
          refine x_istore (i := 4) (L' := [(4, .int (encB (eUp S s m (i + 1)))), (6, .int (nI 0)), (0, .ref a), (1, .int (nI m)), (2, .ref b), (3, .int (nI s)), (5, .int (nI i))]) dX1_waitsForWhom_95 (by decide) rfl ?_
          refine x_iinc (i := 5) (q := 6) (v := nI (i + 1)) (L' := [(5, .int (nI (i + 1))), (4, .int (encB (eUp S s m (i + 1)))), (6, .int (nI 0)), (0, .ref a), (1, .int (nI m)), (2, .ref b), (3, .int (nI s))]) dX1_waitsForWhom_97 rfl (nI_1 _) (by decide) rfl ?_
          refine x_goto (tgt := 24) dX1_waitsForWhom_100 (by decide) ?_
          refine x_locs (L' := [(0, .ref a), (1, .int (nI m)), (2, .ref b), (3, .int (nI s)), (4, .int (encB (eUp S s m (i + 1)))), (5, .int (nI (i + 1)))]) [3, 4, 5, 6, 1, 0] rfl ?_
          exact ih (i + 1) k n (by omega) hk0 hn0
        · have c3 : i ≠ m := nNe (by omega) (by omega) c3
          refine x_aload_n dX1_waitsForWhom_69 1 rfl rfl ?_
          refine x_get dX1_waitsForWhom_70 vC_1 in_X1 ho 0 (by decide) q277 rfl ?_
          refine x_iload dX1_waitsForWhom_73 6 rfl ?_
          obtain ⟨fh10, hh11, hv12⟩ := hL.2.1
          refine x_aald7 (N := 24) (j := i) dX1_waitsForWhom_75 hh11 rfl (by omega) (by decide) (hv12 _ (by omega)) ?_
          refine x_iload_n dX1_waitsForWhom_76 4 rfl rfl ?_
          obtain ⟨fr13, hr14, hw15⟩ := hL.row (m := i) (by omega)
          refine x_sald (N := 8) (j := s) (v := nI (hw S i s)) dX1_waitsForWhom_77 hr14 rfl (hs) (by decide) (hw15 _ (hs)) ?_
          refine x_if_eq (tgt := 93) dX1_waitsForWhom_78 (by decide) (fun c4 => ?_) (fun c4 => ?_)
          · have c4 := n0 (by omega) c4
            have hE : eHold S s m i = false := by unfold eHold; rw [c4]; simp
            refine x_iconst (v := nI 0) dX1_waitsForWhom_93 (by decide) ?_
            refine x_ior dX1_waitsForWhom_94 ?_
            refine x_top (x' := (encB (eUp S s m (i + 1)))) (by rw [← eUp_f hE, nI_0, Int32.or_zero]) ?_
            refine x_istore (i := 4) (L' := [(4, .int (encB (eUp S s m (i + 1)))), (6, .int (nI 0)), (0, .ref a), (1, .int (nI m)), (2, .ref b), (3, .int (nI s)), (5, .int (nI i))]) dX1_waitsForWhom_95 (by decide) rfl ?_
            refine x_iinc (i := 5) (q := 6) (v := nI (i + 1)) (L' := [(5, .int (nI (i + 1))), (4, .int (encB (eUp S s m (i + 1)))), (6, .int (nI 0)), (0, .ref a), (1, .int (nI m)), (2, .ref b), (3, .int (nI s))]) dX1_waitsForWhom_97 rfl (nI_1 _) (by decide) rfl ?_
            refine x_goto (tgt := 24) dX1_waitsForWhom_100 (by decide) ?_
            refine x_locs (L' := [(0, .ref a), (1, .int (nI m)), (2, .ref b), (3, .int (nI s)), (4, .int (encB (eUp S s m (i + 1)))), (5, .int (nI (i + 1)))]) [3, 4, 5, 6, 1, 0] rfl ?_
            exact ih (i + 1) k n (by omega) hk0 hn0
          · have c4 := nN0 c4
            refine x_iload dX1_waitsForWhom_81 0 rfl ?_
            refine x_if_ne (tgt := 93) dX1_waitsForWhom_83 (by decide) (fun h_ => absurd (rfl) h_) (fun _ => ?_)
            have hE : eHold S s m i = true := by
              unfold eHold
              rw [hkd]
              rcases hsh with e | e
              · have e2 : w.2.1 = 2 := by omega
                rcases (show hw S i s = 1 ∨ hw S i s = 2 by omega) with e3 | e3 <;> rw [e3, e2] <;> simp [c3]
              · have e3 : hw S i s = 2 := by omega
                rw [e3]; simp [c3]
            refine x_iconst (v := nI 1) dX1_waitsForWhom_86 (by decide) ?_
            refine x_iload dX1_waitsForWhom_87 6 rfl ?_
            refine x_ishl dX1_waitsForWhom_89 ?_
            refine x_goto (tgt := 94) dX1_waitsForWhom_90 (by decide) ?_
            refine x_ior dX1_waitsForWhom_94 ?_
            refine x_top (x' := (encB (eUp S s m (i + 1)))) (by rw [← eUp_t hE]; exact BS.set (encB_BS _) (by omega)) ?_
            refine x_istore (i := 4) (L' := [(4, .int (encB (eUp S s m (i + 1)))), (6, .int (nI 0)), (0, .ref a), (1, .int (nI m)), (2, .ref b), (3, .int (nI s)), (5, .int (nI i))]) dX1_waitsForWhom_95 (by decide) rfl ?_
            refine x_iinc (i := 5) (q := 6) (v := nI (i + 1)) (L' := [(5, .int (nI (i + 1))), (4, .int (encB (eUp S s m (i + 1)))), (6, .int (nI 0)), (0, .ref a), (1, .int (nI m)), (2, .ref b), (3, .int (nI s))]) dX1_waitsForWhom_97 rfl (nI_1 _) (by decide) rfl ?_
            refine x_goto (tgt := 24) dX1_waitsForWhom_100 (by decide) ?_
            refine x_locs (L' := [(0, .ref a), (1, .int (nI m)), (2, .ref b), (3, .int (nI s)), (4, .int (encB (eUp S s m (i + 1)))), (5, .int (nI (i + 1)))]) [3, 4, 5, 6, 1, 0] rfl ?_
            exact ih (i + 1) k n (by omega) hk0 hn0
      · have c1 := nEq (by omega) (by decide) c1
        refine x_aload_n dX1_waitsForWhom_41 0 rfl rfl ?_
        refine x_get dX1_waitsForWhom_42 vC_1 in_X1 ho 0 (by decide) q277 rfl ?_
        refine x_iload dX1_waitsForWhom_45 5 rfl ?_
        obtain ⟨fh16, hh17, hv18⟩ := hL.2.1
        refine x_aald7 (N := 24) (j := i) dX1_waitsForWhom_47 hh17 rfl (by omega) (by decide) (hv18 _ (by omega)) ?_
        refine x_iload_n dX1_waitsForWhom_48 3 rfl rfl ?_
        obtain ⟨fr19, hr20, hw21⟩ := hL.row (m := i) (by omega)
        refine x_sald (N := 8) (j := s) (v := nI (hw S i s)) dX1_waitsForWhom_49 hr20 rfl (hs) (by decide) (hw21 _ (hs)) ?_
        refine x_iconst (v := nI 1) dX1_waitsForWhom_50 (by decide) ?_
        refine x_icmp_ne (tgt := 58) dX1_waitsForWhom_51 (by decide) (fun c2 => ?_) (fun c2 => ?_)
        · have c2 := nNe (by omega) (by decide) c2
          have hsh : w.2.1 ≠ 1 ∨ hw S i s ≠ 1 := Or.inr c2
          refine x_iconst (v := nI 0) dX1_waitsForWhom_58 (by decide) ?_
          refine x_istore (i := 6) (L' := [(6, .int (nI 0)), (0, .ref a), (1, .int (nI m)), (2, .ref b), (3, .int (nI s)), (4, .int (encB (eUp S s m i))), (5, .int (nI i))]) dX1_waitsForWhom_59 (by decide) rfl ?_
          refine x_iload dX1_waitsForWhom_61 5 rfl ?_
          refine x_iload dX1_waitsForWhom_63 6 rfl ?_
          refine x_iload_n dX1_waitsForWhom_65 2 rfl rfl ?_
          refine x_icmp_eq (tgt := 93) dX1_waitsForWhom_66 (by decide) (fun c3 => ?_) (fun c3 => ?_)
          · have c3 : i = m := nEq (by omega) (by omega) c3
            have hE : eHold S s m i = false := by unfold eHold; rw [c3]; simp
            refine x_iconst (v := nI 0) dX1_waitsForWhom_93 (by decide) ?_
            refine x_ior dX1_waitsForWhom_94 ?_
            refine x_top (x' := (encB (eUp S s m (i + 1)))) (by rw [← eUp_f hE, nI_0, Int32.or_zero]) ?_
            refine x_istore (i := 4) (L' := [(4, .int (encB (eUp S s m (i + 1)))), (6, .int (nI 0)), (0, .ref a), (1, .int (nI m)), (2, .ref b), (3, .int (nI s)), (5, .int (nI i))]) dX1_waitsForWhom_95 (by decide) rfl ?_
            refine x_iinc (i := 5) (q := 6) (v := nI (i + 1)) (L' := [(5, .int (nI (i + 1))), (4, .int (encB (eUp S s m (i + 1)))), (6, .int (nI 0)), (0, .ref a), (1, .int (nI m)), (2, .ref b), (3, .int (nI s))]) dX1_waitsForWhom_97 rfl (nI_1 _) (by decide) rfl ?_
            refine x_goto (tgt := 24) dX1_waitsForWhom_100 (by decide) ?_
            refine x_locs (L' := [(0, .ref a), (1, .int (nI m)), (2, .ref b), (3, .int (nI s)), (4, .int (encB (eUp S s m (i + 1)))), (5, .int (nI (i + 1)))]) [3, 4, 5, 6, 1, 0] rfl ?_
            exact ih (i + 1) k n (by omega) hk0 hn0
          · have c3 : i ≠ m := nNe (by omega) (by omega) c3
            refine x_aload_n dX1_waitsForWhom_69 1 rfl rfl ?_
            refine x_get dX1_waitsForWhom_70 vC_1 in_X1 ho 0 (by decide) q277 rfl ?_
            refine x_iload dX1_waitsForWhom_73 6 rfl ?_
            obtain ⟨fh22, hh23, hv24⟩ := hL.2.1
            refine x_aald7 (N := 24) (j := i) dX1_waitsForWhom_75 hh23 rfl (by omega) (by decide) (hv24 _ (by omega)) ?_
            refine x_iload_n dX1_waitsForWhom_76 4 rfl rfl ?_
            obtain ⟨fr25, hr26, hw27⟩ := hL.row (m := i) (by omega)
            refine x_sald (N := 8) (j := s) (v := nI (hw S i s)) dX1_waitsForWhom_77 hr26 rfl (hs) (by decide) (hw27 _ (hs)) ?_
            refine x_if_eq (tgt := 93) dX1_waitsForWhom_78 (by decide) (fun c4 => ?_) (fun c4 => ?_)
            · have c4 := n0 (by omega) c4
              have hE : eHold S s m i = false := by unfold eHold; rw [c4]; simp
              refine x_iconst (v := nI 0) dX1_waitsForWhom_93 (by decide) ?_
              refine x_ior dX1_waitsForWhom_94 ?_
              refine x_top (x' := (encB (eUp S s m (i + 1)))) (by rw [← eUp_f hE, nI_0, Int32.or_zero]) ?_
              refine x_istore (i := 4) (L' := [(4, .int (encB (eUp S s m (i + 1)))), (6, .int (nI 0)), (0, .ref a), (1, .int (nI m)), (2, .ref b), (3, .int (nI s)), (5, .int (nI i))]) dX1_waitsForWhom_95 (by decide) rfl ?_
              refine x_iinc (i := 5) (q := 6) (v := nI (i + 1)) (L' := [(5, .int (nI (i + 1))), (4, .int (encB (eUp S s m (i + 1)))), (6, .int (nI 0)), (0, .ref a), (1, .int (nI m)), (2, .ref b), (3, .int (nI s))]) dX1_waitsForWhom_97 rfl (nI_1 _) (by decide) rfl ?_
              refine x_goto (tgt := 24) dX1_waitsForWhom_100 (by decide) ?_
              refine x_locs (L' := [(0, .ref a), (1, .int (nI m)), (2, .ref b), (3, .int (nI s)), (4, .int (encB (eUp S s m (i + 1)))), (5, .int (nI (i + 1)))]) [3, 4, 5, 6, 1, 0] rfl ?_
              exact ih (i + 1) k n (by omega) hk0 hn0
            · have c4 := nN0 c4
              refine x_iload dX1_waitsForWhom_81 0 rfl ?_
              refine x_if_ne (tgt := 93) dX1_waitsForWhom_83 (by decide) (fun h_ => absurd (rfl) h_) (fun _ => ?_)
              have hE : eHold S s m i = true := by
                unfold eHold
                rw [hkd]
                rcases hsh with e | e
                · have e2 : w.2.1 = 2 := by omega
                  rcases (show hw S i s = 1 ∨ hw S i s = 2 by omega) with e3 | e3 <;> rw [e3, e2] <;> simp [c3]
                · have e3 : hw S i s = 2 := by omega
                  rw [e3]; simp [c3]
              refine x_iconst (v := nI 1) dX1_waitsForWhom_86 (by decide) ?_
              refine x_iload dX1_waitsForWhom_87 6 rfl ?_
              refine x_ishl dX1_waitsForWhom_89 ?_
              refine x_goto (tgt := 94) dX1_waitsForWhom_90 (by decide) ?_
              refine x_ior dX1_waitsForWhom_94 ?_
              refine x_top (x' := (encB (eUp S s m (i + 1)))) (by rw [← eUp_t hE]; exact BS.set (encB_BS _) (by omega)) ?_
              refine x_istore (i := 4) (L' := [(4, .int (encB (eUp S s m (i + 1)))), (6, .int (nI 0)), (0, .ref a), (1, .int (nI m)), (2, .ref b), (3, .int (nI s)), (5, .int (nI i))]) dX1_waitsForWhom_95 (by decide) rfl ?_
              refine x_iinc (i := 5) (q := 6) (v := nI (i + 1)) (L' := [(5, .int (nI (i + 1))), (4, .int (encB (eUp S s m (i + 1)))), (6, .int (nI 0)), (0, .ref a), (1, .int (nI m)), (2, .ref b), (3, .int (nI s))]) dX1_waitsForWhom_97 rfl (nI_1 _) (by decide) rfl ?_
              refine x_goto (tgt := 24) dX1_waitsForWhom_100 (by decide) ?_
              refine x_locs (L' := [(0, .ref a), (1, .int (nI m)), (2, .ref b), (3, .int (nI s)), (4, .int (encB (eUp S s m (i + 1)))), (5, .int (nI (i + 1)))]) [3, 4, 5, 6, 1, 0] rfl ?_
              exact ih (i + 1) k n (by omega) hk0 hn0
        · have c2 := nEq (by omega) (by decide) c2
          have hsh : w.2.1 = 1 ∧ hw S i s = 1 := ⟨c1, c2⟩
          refine x_iconst (v := nI 1) dX1_waitsForWhom_54 (by decide) ?_
          refine x_goto (tgt := 59) dX1_waitsForWhom_55 (by decide) ?_
          refine x_istore (i := 6) (L' := [(6, .int (nI 1)), (0, .ref a), (1, .int (nI m)), (2, .ref b), (3, .int (nI s)), (4, .int (encB (eUp S s m i))), (5, .int (nI i))]) dX1_waitsForWhom_59 (by decide) rfl ?_
          refine x_iload dX1_waitsForWhom_61 5 rfl ?_
          refine x_iload dX1_waitsForWhom_63 6 rfl ?_
          refine x_iload_n dX1_waitsForWhom_65 2 rfl rfl ?_
          refine x_icmp_eq (tgt := 93) dX1_waitsForWhom_66 (by decide) (fun c3 => ?_) (fun c3 => ?_)
          · have c3 : i = m := nEq (by omega) (by omega) c3
            have hE : eHold S s m i = false := by unfold eHold; rw [c3]; simp
            refine x_iconst (v := nI 0) dX1_waitsForWhom_93 (by decide) ?_
            refine x_ior dX1_waitsForWhom_94 ?_
            refine x_top (x' := (encB (eUp S s m (i + 1)))) (by rw [← eUp_f hE, nI_0, Int32.or_zero]) ?_
            refine x_istore (i := 4) (L' := [(4, .int (encB (eUp S s m (i + 1)))), (6, .int (nI 1)), (0, .ref a), (1, .int (nI m)), (2, .ref b), (3, .int (nI s)), (5, .int (nI i))]) dX1_waitsForWhom_95 (by decide) rfl ?_
            refine x_iinc (i := 5) (q := 6) (v := nI (i + 1)) (L' := [(5, .int (nI (i + 1))), (4, .int (encB (eUp S s m (i + 1)))), (6, .int (nI 1)), (0, .ref a), (1, .int (nI m)), (2, .ref b), (3, .int (nI s))]) dX1_waitsForWhom_97 rfl (nI_1 _) (by decide) rfl ?_
            refine x_goto (tgt := 24) dX1_waitsForWhom_100 (by decide) ?_
            refine x_locs (L' := [(0, .ref a), (1, .int (nI m)), (2, .ref b), (3, .int (nI s)), (4, .int (encB (eUp S s m (i + 1)))), (5, .int (nI (i + 1)))]) [3, 4, 5, 6, 1, 0] rfl ?_
            exact ih (i + 1) k n (by omega) hk0 hn0
          · have c3 : i ≠ m := nNe (by omega) (by omega) c3
            refine x_aload_n dX1_waitsForWhom_69 1 rfl rfl ?_
            refine x_get dX1_waitsForWhom_70 vC_1 in_X1 ho 0 (by decide) q277 rfl ?_
            refine x_iload dX1_waitsForWhom_73 6 rfl ?_
            obtain ⟨fh28, hh29, hv30⟩ := hL.2.1
            refine x_aald7 (N := 24) (j := i) dX1_waitsForWhom_75 hh29 rfl (by omega) (by decide) (hv30 _ (by omega)) ?_
            refine x_iload_n dX1_waitsForWhom_76 4 rfl rfl ?_
            obtain ⟨fr31, hr32, hw33⟩ := hL.row (m := i) (by omega)
            refine x_sald (N := 8) (j := s) (v := nI (hw S i s)) dX1_waitsForWhom_77 hr32 rfl (hs) (by decide) (hw33 _ (hs)) ?_
            refine x_if_eq (tgt := 93) dX1_waitsForWhom_78 (by decide) (fun c4 => ?_) (fun c4 => ?_)
            · have c4 := n0 (by omega) c4
              have hE : eHold S s m i = false := by unfold eHold; rw [c4]; simp
              refine x_iconst (v := nI 0) dX1_waitsForWhom_93 (by decide) ?_
              refine x_ior dX1_waitsForWhom_94 ?_
              refine x_top (x' := (encB (eUp S s m (i + 1)))) (by rw [← eUp_f hE, nI_0, Int32.or_zero]) ?_
              refine x_istore (i := 4) (L' := [(4, .int (encB (eUp S s m (i + 1)))), (6, .int (nI 1)), (0, .ref a), (1, .int (nI m)), (2, .ref b), (3, .int (nI s)), (5, .int (nI i))]) dX1_waitsForWhom_95 (by decide) rfl ?_
              refine x_iinc (i := 5) (q := 6) (v := nI (i + 1)) (L' := [(5, .int (nI (i + 1))), (4, .int (encB (eUp S s m (i + 1)))), (6, .int (nI 1)), (0, .ref a), (1, .int (nI m)), (2, .ref b), (3, .int (nI s))]) dX1_waitsForWhom_97 rfl (nI_1 _) (by decide) rfl ?_
              refine x_goto (tgt := 24) dX1_waitsForWhom_100 (by decide) ?_
              refine x_locs (L' := [(0, .ref a), (1, .int (nI m)), (2, .ref b), (3, .int (nI s)), (4, .int (encB (eUp S s m (i + 1)))), (5, .int (nI (i + 1)))]) [3, 4, 5, 6, 1, 0] rfl ?_
              exact ih (i + 1) k n (by omega) hk0 hn0
            · have c4 := nN0 c4
              refine x_iload dX1_waitsForWhom_81 0 rfl ?_
              refine x_if_ne (tgt := 93) dX1_waitsForWhom_83 (by decide) (fun _ => ?_) (fun h_ => absurd h_ (by decide))
              have hE : eHold S s m i = false := by unfold eHold; rw [hkd, hsh.1, hsh.2]; simp
              refine x_iconst (v := nI 0) dX1_waitsForWhom_93 (by decide) ?_
              refine x_ior dX1_waitsForWhom_94 ?_
              refine x_top (x' := (encB (eUp S s m (i + 1)))) (by rw [← eUp_f hE, nI_0, Int32.or_zero]) ?_
              refine x_istore (i := 4) (L' := [(4, .int (encB (eUp S s m (i + 1)))), (6, .int (nI 1)), (0, .ref a), (1, .int (nI m)), (2, .ref b), (3, .int (nI s)), (5, .int (nI i))]) dX1_waitsForWhom_95 (by decide) rfl ?_
              refine x_iinc (i := 5) (q := 6) (v := nI (i + 1)) (L' := [(5, .int (nI (i + 1))), (4, .int (encB (eUp S s m (i + 1)))), (6, .int (nI 1)), (0, .ref a), (1, .int (nI m)), (2, .ref b), (3, .int (nI s))]) dX1_waitsForWhom_97 rfl (nI_1 _) (by decide) rfl ?_
              refine x_goto (tgt := 24) dX1_waitsForWhom_100 (by decide) ?_
              refine x_locs (L' := [(0, .ref a), (1, .int (nI m)), (2, .ref b), (3, .int (nI s)), (4, .int (encB (eUp S s m (i + 1)))), (5, .int (nI (i + 1)))]) [3, 4, 5, 6, 1, 0] rfl ?_
              exact ih (i + 1) k n (by omega) hk0 hn0
