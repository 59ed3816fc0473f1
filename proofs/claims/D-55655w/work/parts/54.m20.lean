set_option maxRecDepth 100000
def coUndo (c : CS) : Int32 × CS := match c.2.1.getLast? with
  | none => (-15, c)
  | some P => (nI (c.2.1.length - 1), (P, c.2.1.dropLast, c.2.2))
def coRest (c : CS) (sv : Option AS) : Int32 × CS := match sv with
  | none => (-15, c)
  | some P => (nI (nC P - nE P), (P, [], c.2.2))
theorem IV.le {S : AS} (h : IV S) : nE S ≤ nC S := by have := h.2.2.2.2.2.2.2.2.1; omega
theorem last_get {past : List AS} {P : AS} (h : past.getLast? = some P) : past[past.length - 1]? = some P := by rw [← h, List.getLast?_eq_getElem?]
theorem dl_get {past : List AS} {P : AS} {i : Nat} (h : past.dropLast[i]? = some P) : past[i]? = some P := by
  rw [List.dropLast_eq_take] at h
  have hi := (List.getElem?_eq_some_iff.mp h).1
  rw [List.length_take] at hi
  rw [List.getElem?_take_of_lt (by omega)] at h
  exact h
/-- how the core is changed, all else of the numbers staying -/
theorem SR.cr {M N : MS} {z : Sys} {c : CS} (h : SR M z) (hc : CR N c) (h1 : ∀ i, i ≠ 0 → i ≠ 1 → N.1 i = M.1 i) (h2 : ∀ j, j ≠ 6 → N.2 j = M.2 j) : SR N (c, z.2) := by
  obtain ⟨k1, k2, k3, k4, k5⟩ := h
  exact ⟨hc, (h2 7 (by decide)).trans k2, ⟨(h2 5 (by decide)).trans k3.1, fun P hP => by rw [h1 2 (by decide) (by decide)]; exact k3.2 P hP⟩, ⟨k4.1, (h2 11 (by decide)).trans k4.2.1, fun i c hc => by rw [h1 10 (by decide) (by decide)]; exact k4.2.2 i c hc⟩, ⟨k5.1, (h2 13 (by decide)).trans k5.2.1, fun i c hc => by rw [h1 12 (by decide) (by decide)]; exact k5.2.2 i c hc⟩⟩
theorem x_top3 {l : Launch} {y : MethodName} {cc : ByteArray} {nL : Nat} {ret : Option FieldType} {hh : List (Nat × Nat × Nat × Nat)} {G : YG} {R : Room} {Z : YE} {pc : Nat} {L : List (Nat × Value)} {v u : Value} {rest : List Value} {σ : AH} {k n : Nat} {x x' : Int32} (h : x = x') (kk : X l y cc nL ret hh G R Z pc L (v :: u :: .int x' :: rest) σ k n) : X l y cc nL ret hh G R Z pc L (v :: u :: .int x :: rest) σ k n := h ▸ kk
set_option maxHeartbeats 4000000 in
set_option maxRecDepth 100000 in
theorem con_X2_undo {l : Launch} {G : YG} {σ : AH} {a : Nat} {ad : Nat → Nat} {M : MS} {z : Sys} (hM : MAt σ a ad M) (hS : SR M z) (hI : AIs z.1) : Con l yX2_undo cX2_undo 1 (some FieldType.int) G 1 0 0 [.ref a] σ (PI fun r τ => r = (coUndo z.1).1 ∧ SP a ad σ ((coUndo z.1).2, z.2) τ) := by
  refine con_of (by decide) (Nat.le_of_ble_eq_true rfl) ?_
  refine x_locs (L' := [(0, .ref a)]) [0] rfl ?_
  obtain ⟨hC, -⟩ := id hS
  have hl := hC.2.1.2.1
  refine x_aload_n dX2_undo_0 0 rfl rfl ?_
  refine x_get dX2_undo_1 vC_2 in_X2 hM.1 6 (by decide) q1882 rfl ?_
  refine x_top (x' := nI z.1.2.1.length) (hC.2.1.1) ?_
  refine x_if_ne (tgt := 10) dX2_undo_4 (by decide) (fun c1 => ?_) (fun c1 => ?_)
  · have c1 := nN0 c1
    obtain ⟨P, hP⟩ : ∃ P, z.1.2.1.getLast? = some P := by
      cases h : z.1.2.1.getLast? with
      | some P => exact ⟨P, rfl⟩
      | none => rw [List.getLast?_eq_none_iff.mp h] at c1; exact absurd rfl c1
    have hco : coUndo z.1 = (nI (z.1.2.1.length - 1), (P, z.1.2.1.dropLast, z.1.2.2)) := by unfold coUndo; rw [hP]
    have hPg := last_get hP
    have hPI := (hI.2 P (List.mem_of_getElem? hPg)).1
    refine x_aload_n dX2_undo_10 0 rfl rfl ?_
    refine x_dup dX2_undo_11 rfl ?_
    refine x_get dX2_undo_12 vC_2 in_X2 hM.1 6 (by decide) q1882 rfl ?_
    refine x_top (x' := nI z.1.2.1.length) (hC.2.1.1) ?_
    refine x_iconst (v := nI 1) dX2_undo_15 (by decide) ?_
    refine x_isub dX2_undo_16 ?_
    refine x_top (x' := nI (z.1.2.1.length - 1)) (nI_sub (by omega)) ?_
    refine x_put (fs' := mFs ad (mS M 6 (nI (z.1.2.1.length - 1)))) dX2_undo_17 vC_2 in_X2 tyX2_ok nmX2 hM.1 6 (by decide) q1882 rfl rfl (rfl) (rfl) (Nat.le_of_ble_eq_true rfl) rfl (fun σ1 h2 h3 => ?_)
    obtain ⟨hAM4, hBM4⟩ := hM.fld (k := 6) (v := nI (z.1.2.1.length - 1)) h2 h3
    refine x_aload_n dX2_undo_20 0 rfl rfl ?_
    refine x_get dX2_undo_21 vC_2 in_X2 hAM4.1 1 (by decide) q1877 rfl ?_
    refine x_sipush (v := nI 429) dX2_undo_24 (by decide) ?_
    refine x_aload_n dX2_undo_27 0 rfl rfl ?_
    refine x_get dX2_undo_28 vC_2 in_X2 hAM4.1 6 (by decide) q1882 rfl ?_
    refine x_imul dX2_undo_31 ?_
    refine x_aload_n dX2_undo_32 0 rfl rfl ?_
    refine x_get dX2_undo_33 vC_2 in_X2 hAM4.1 0 (by decide) q1876 rfl ?_
    refine x_iconst (v := nI 0) dX2_undo_36 (by decide) ?_
    refine x_top3 (x' := nI (429 * (z.1.2.1.length - 1))) (pk_mul _ _) ?_
    refine x_callS dX2_undo_37 (con_X2_copies (p := ad 1) (q := ad 0) (N1 := 3432) (N2 := 429) (at_ := 429 * (z.1.2.1.length - 1)) (on := 0) (f := M.1 1) (g := M.1 0) (hAM4.2.1 1 rfl) (hAM4.2.1 0 rfl) (fun z => absurd (hAM4.2.2 1 0 rfl rfl z) (by decide)) (by omega) (by decide) (by decide) (by decide)) (lw_S q1948 q1949 q101 q1950) (np := 4) (by decide +kernel) rfl ⟨Nat.le_of_ble_eq_true rfl, Nat.le_of_ble_eq_true rfl⟩ (Nat.le_of_ble_eq_true rfl) rfl (by decide) (by decide) (rV fun σ5 h5 => ?_) nV'
    obtain ⟨hA5, hF5⟩ := hAM4.arr (k := 0) rfl h5.1 h5.2
    refine x_aload_n dX2_undo_40 0 rfl rfl ?_
    refine x_get dX2_undo_41 vC_2 in_X2 hA5.1 6 (by decide) q1882 rfl ?_
    refine x_top (x' := nI (z.1.2.1.length - 1)) (rfl) ?_
    exact x_iret dX2_undo_44 rfl (⟨_, rfl, by rw [hco], _, hA5, (MF.tr MF.rf hBM4).tr hF5, by rw [hco]; exact hS.cr ⟨hPI.ex (hC.2.1.2.2 _ P hPg) (fun j hj => by show va_cpy (M.1 1) (M.1 0) _ 0 429 j = _; rw [pk_cpy_in (by omega) (by omega), Nat.sub_zero]), ⟨by rw [List.length_dropLast]; rfl, by rw [List.length_dropLast]; omega, fun i Q hQ => hC.2.1.2.2 i Q (dl_get hQ)⟩, hC.2.2.1, hC.2.2.2⟩ (fun i hi _ => if_neg hi) (fun j hj => if_neg hj)⟩)
  · have c1 := n0 (by omega) c1
    have hco : coUndo z.1 = (-15, z.1) := by unfold coUndo; rw [List.eq_nil_of_length_eq_zero c1]; rfl
    refine x_bipush (v := (-15)) dX2_undo_7 (by decide) ?_
    exact x_iret dX2_undo_9 rfl (⟨_, rfl, by rw [hco], by rw [hco]; exact SP.rf hM hS⟩)
set_option maxHeartbeats 4000000 in
set_option maxRecDepth 100000 in
theorem con_X2_save {l : Launch} {G : YG} {σ : AH} {a : Nat} {ad : Nat → Nat} {M : MS} {z : Sys} (hM : MAt σ a ad M) (hS : SR M z) (hI : AIs z.1) : Con l yX2_save cX2_save 1 (some FieldType.int) G 1 0 0 [.ref a] σ (PI fun r τ => r = nI (nC z.1.1 - nE z.1.1) ∧ SP a ad σ (z.1, some z.1.1, z.2.2) τ) := by
  refine con_of (by decide) (Nat.le_of_ble_eq_true rfl) ?_
  refine x_locs (L' := [(0, .ref a)]) [0] rfl ?_
  obtain ⟨hC, h7, hSV, hT, hLN⟩ := id hS
  refine x_aload_n dX2_save_0 0 rfl rfl ?_
  refine x_iconst (v := nI 1) dX2_save_1 (by decide) ?_
  refine x_put (fs' := mFs ad (mS M 5 (nI 1))) dX2_save_2 vC_2 in_X2 tyX2_ok nmX2 hM.1 5 (by decide) q1881 rfl rfl (rfl) (rfl) (Nat.le_of_ble_eq_true rfl) rfl (fun σ1 h2 h3 => ?_)
  obtain ⟨hAM4, hBM4⟩ := hM.fld (k := 5) (v := nI 1) h2 h3
  refine x_aload_n dX2_save_5 0 rfl rfl ?_
  refine x_get dX2_save_6 vC_2 in_X2 hAM4.1 0 (by decide) q1876 rfl ?_
  refine x_iconst (v := nI 0) dX2_save_9 (by decide) ?_
  refine x_aload_n dX2_save_10 0 rfl rfl ?_
  refine x_get dX2_save_11 vC_2 in_X2 hAM4.1 2 (by decide) q1878 rfl ?_
  refine x_iconst (v := nI 0) dX2_save_14 (by decide) ?_
  refine x_callS dX2_save_15 (con_X2_copies (p := ad 0) (q := ad 2) (N1 := 429) (N2 := 429) (at_ := 0) (on := 0) (f := M.1 0) (g := M.1 2) (hAM4.2.1 0 rfl) (hAM4.2.1 2 rfl) (fun z => absurd (hAM4.2.2 0 2 rfl rfl z) (by decide)) (by decide) (by decide) (by decide) (by decide)) (lw_S q1948 q1949 q101 q1950) (np := 4) (by decide +kernel) rfl ⟨Nat.le_of_ble_eq_true rfl, Nat.le_of_ble_eq_true rfl⟩ (Nat.le_of_ble_eq_true rfl) rfl (by decide) (by decide) (rV fun σ5 h5 => ?_) nV'
  obtain ⟨hA5, hF5⟩ := hAM4.arr (k := 2) rfl h5.1 h5.2
  refine x_aload_n dX2_save_18 0 rfl rfl ?_
  refine x_callV dX2_save_19 (con_X2_there hA5 (S := z.1.1) hC.1 hI.1.1.le) (lw_V q1940 q1942 qs40 q101 q1943) (np := 0) (by decide +kernel) rfl (rcv_of vC_2 hA5.1) ⟨Nat.le_of_ble_eq_true rfl, Nat.le_of_ble_eq_true rfl⟩ (Nat.le_of_ble_eq_true rfl) rfl (by decide) (by decide) (rS ?_) nI'
  exact x_iret dX2_save_22 rfl (⟨_, rfl, rfl, _, hA5, (MF.tr MF.rf hBM4).tr hF5, ⟨hC.1, hC.2.1.of rfl rfl, hC.2.2.1, hC.2.2.2⟩, h7, ⟨rfl, fun P hP => by cases hP; exact hI.1.1.ex hC.1 (fun j hj => by show va_cpy (M.1 0) (M.1 2) 0 0 429 j = _; rw [pk_cpy_in (by omega) (by omega), show 0 + (j - 0) = j by omega])⟩, hT, hLN⟩)
set_option maxHeartbeats 4000000 in
set_option maxRecDepth 100000 in
theorem con_X2_restore {l : Launch} {G : YG} {σ : AH} {a : Nat} {ad : Nat → Nat} {M : MS} {z : Sys} (hM : MAt σ a ad M) (hS : SR M z) (hI : AIs z.1) (hV : ∀ P, z.2.1 = some P → AI P) : Con l yX2_restore cX2_restore 1 (some FieldType.int) G 1 0 0 [.ref a] σ (PI fun r τ => r = (coRest z.1 z.2.1).1 ∧ SP a ad σ ((coRest z.1 z.2.1).2, z.2) τ) := by
  refine con_of (by decide) (Nat.le_of_ble_eq_true rfl) ?_
  refine x_locs (L' := [(0, .ref a)]) [0] rfl ?_
  obtain ⟨hC, h7, hSV, hT, hLN⟩ := id hS
  refine x_aload_n dX2_restore_0 0 rfl rfl ?_
  refine x_get dX2_restore_1 vC_2 in_X2 hM.1 5 (by decide) q1881 rfl ?_
  refine x_top (x' := bI z.2.1.isSome) (hSV.1) ?_
  refine x_if_ne (tgt := 10) dX2_restore_4 (by decide) (fun c1 => ?_) (fun c1 => ?_)
  · have c1 := bI_1 c1
    obtain ⟨P, hP⟩ : ∃ P, z.2.1 = some P := Option.isSome_iff_exists.mp c1
    have hco : coRest z.1 z.2.1 = (nI (nC P - nE P), (P, [], z.1.2.2)) := by unfold coRest; rw [hP]
    have hPI := (hV P hP).1
    have hPG := hSV.2 P hP
    refine x_aload_n dX2_restore_10 0 rfl rfl ?_
    refine x_get dX2_restore_11 vC_2 in_X2 hM.1 2 (by decide) q1878 rfl ?_
    refine x_iconst (v := nI 0) dX2_restore_14 (by decide) ?_
    refine x_aload_n dX2_restore_15 0 rfl rfl ?_
    refine x_get dX2_restore_16 vC_2 in_X2 hM.1 0 (by decide) q1876 rfl ?_
    refine x_iconst (v := nI 0) dX2_restore_19 (by decide) ?_
    refine x_callS dX2_restore_20 (con_X2_copies (p := ad 2) (q := ad 0) (N1 := 429) (N2 := 429) (at_ := 0) (on := 0) (f := M.1 2) (g := M.1 0) (hM.2.1 2 rfl) (hM.2.1 0 rfl) (fun z => absurd (hM.2.2 2 0 rfl rfl z) (by decide)) (by decide) (by decide) (by decide) (by decide)) (lw_S q1948 q1949 q101 q1950) (np := 4) (by decide +kernel) rfl ⟨Nat.le_of_ble_eq_true rfl, Nat.le_of_ble_eq_true rfl⟩ (Nat.le_of_ble_eq_true rfl) rfl (by decide) (by decide) (rV fun σ1 h5 => ?_) nV'
    obtain ⟨hA5, hF5⟩ := hM.arr (k := 0) rfl h5.1 h5.2
    have hG5 : GR (va_cpy (M.1 2) (M.1 0) 0 0 429) P := hPI.ex hPG (fun j hj => by rw [pk_cpy_in (by omega) (by omega), show 0 + (j - 0) = j by omega])
    refine x_aload_n dX2_restore_23 0 rfl rfl ?_
    refine x_iconst (v := nI 0) dX2_restore_24 (by decide) ?_
    refine x_put (fs' := mFs ad (mS (mA M 0 (va_cpy (M.1 2) (M.1 0) 0 0 429)) 6 (nI 0))) dX2_restore_25 vC_2 in_X2 tyX2_ok nmX2 hA5.1 6 (by decide) q1882 rfl rfl (rfl) (rfl) (Nat.le_of_ble_eq_true rfl) rfl (fun σ3 h4 h5 => ?_)
    obtain ⟨hAM6, hBM6⟩ := hA5.fld (k := 6) (v := nI 0) h4 h5
    refine x_aload_n dX2_restore_28 0 rfl rfl ?_
    refine x_callV dX2_restore_29 (con_X2_there hAM6 (S := P) hG5 hPI.le) (lw_V q1940 q1942 qs40 q101 q1943) (np := 0) (by decide +kernel) rfl (rcv_of vC_2 hAM6.1) ⟨Nat.le_of_ble_eq_true rfl, Nat.le_of_ble_eq_true rfl⟩ (Nat.le_of_ble_eq_true rfl) rfl (by decide) (by decide) (rS ?_) nI'
    exact x_iret dX2_restore_32 rfl (⟨_, rfl, by rw [hco], _, hAM6, (MF.tr hF5 hBM6), by rw [hco]; exact hS.cr ⟨hG5, ⟨rfl, Nat.zero_le _, fun i Q hQ => by cases hQ⟩, hC.2.2.1, hC.2.2.2⟩ (fun i hi _ => if_neg hi) (fun j hj => if_neg hj)⟩)
  · have c1 := bI_0 c1
    have hco : coRest z.1 z.2.1 = (-15, z.1) := by
      unfold coRest
      cases h : z.2.1 with
      | none => rfl
      | some P => rw [h] at c1; cases c1
    refine x_bipush (v := (-15)) dX2_restore_7 (by decide) ?_
    exact x_iret dX2_restore_9 rfl (⟨_, rfl, by rw [hco], by rw [hco]; exact SP.rf hM hS⟩)
theorem mIs_cases {k : Nat} (h : mIs k = true) : k = 0 ∨ k = 1 ∨ k = 2 ∨ k = 3 ∨ k = 4 ∨ k = 10 ∨ k = 12 ∨ k = 16 := by
  unfold mIs at h
  simp only [Bool.or_eq_true, beq_iff_eq] at h
  omega
theorem Fr.stays {a : Nat} {σ τ : AH} (h : Fr (fun q => q = a) σ τ) {q : Nat} (hq : σ q ≠ none) (hne : q ≠ a) : τ q = σ q := by
  cases hs : σ q with
  | none => exact absurd hs hq
  | some e => exact h.1 q e hs hne
theorem sm_zero : ∀ n, sm (fun _ => 0) n = 0 := by
  intro n
  induction n with
  | zero => rfl
  | succ n ih => show sm _ n + 0 = 0; rw [ih]
theorem init_SR : SR (fun _ _ => 0, fun _ => 0) ((AS0, [], 0, 0), none, [], []) := by
  refine ⟨⟨⟨⟨rfl, rfl, ?_, ?_, ?_, fun _ _ _ => rfl⟩, fun m hm => ⟨rfl, rfl, rfl, rfl⟩, fun m hm => absurd hm (Nat.not_lt_zero _), fun m s _ _ => rfl, fun s _ => ⟨rfl, rfl, rfl⟩, fun s i w _ h => by cases h⟩, ⟨rfl, Nat.zero_le _, fun i P h => by cases h⟩, rfl, rfl⟩, rfl, ⟨rfl, fun P h => by cases h⟩, ⟨Nat.zero_le _, rfl, fun i c h => by cases h⟩, ⟨Nat.zero_le _, rfl, fun i c h => by cases h⟩⟩
  · show (0 : Int32) = nI (sm (fun _ => 0) 8); rw [sm_zero]; rfl
  · show (0 : Int32) = nI (sm (fun _ => 0) 24); rw [sm_zero]; rfl
  · show (0 : Int32) = nI (sm (fun _ => 0) 24); rw [sm_zero]; rfl
set_option maxHeartbeats 4000000 in
set_option maxRecDepth 100000 in
theorem con_X2_init {l : Launch} {G : YG} {σ : AH} {a : Nat} (ha : σ a = some (.inr (2, [.null, .null, .null, .null, .null, .int 0, .int 0, .int 0, .int 0, .int 0, .null, .int 0, .null, .int 0, .int 0, .int 0, .null, .int 0]))) : Con l yX2_init cX2_init 1 none G 1 8 5501 [.ref a] σ (PV fun τ => (∃ ad M, MAt τ a ad M ∧ SR M ((AS0, [], 0, 0), none, [], []) ∧ ∀ k, mIs k = true → σ (ad k) = none) ∧ ∀ q, σ q ≠ none → q ≠ a → τ q = σ q) := by
  refine con_of (by decide) (Nat.le_of_ble_eq_true rfl) ?_
  refine x_locs (L' := [(0, .ref a)]) [0] rfl ?_
  have hF : Fr (fun q => q = a) σ σ := Fr.rf
  refine x_aload_n dX2_init_0 0 rfl rfl ?_
  refine x_objInit dX2_init_1 q1875 q135 q136 ⟨by first | exact Nat.le_of_ble_eq_true rfl | (unfold yroom; simp only; omega), by first | exact Nat.le_of_ble_eq_true rfl | (unfold yroom; simp only; omega)⟩ rfl ?_
  refine x_aload_n dX2_init_4 0 rfl rfl ?_
  refine x_sipush (v := nI 429) dX2_init_5 (by decide) ?_
  refine x_newi (N := 429) dX2_init_8 q204 rfl (by first | omega | decide) (by omega) (by omega) (fun a0 σ1 hn2 hb3 hc4 hu5 => ?_)
  have ha := ro_new hn2 hu5 _ _ ha
  have hn20 := Fr.nn hF hn2
  have hF := Fr.tr_ro hF (ro_new hn2 hu5)
  have hz0 : σ a0 = none := hn20
  refine x_putF (fs' := [.ref a0, .null, .null, .null, .null, .int 0, .int 0, .int 0, .int 0, .int 0, .null, .int 0, .null, .int 0, .int 0, .int 0, .null, .int 0]) dX2_init_10 vC_2 in_X2 tyX2_ok nmX2 ha 0 (by decide) q1876 rfl rfl rfl rfl (rfl) (rfl) (Nat.le_of_ble_eq_true rfl) rfl (fun σ6 hc8 hu7 => ?_)
  have hc4 := at_put hu7 hc4 (cell_ne ha hc4 rfl)
  have hF := Fr.put hF hc8 hu7 (Or.inl ⟨rfl, fun e he => by rw [ha] at he; cases he; rfl⟩)
  refine x_aload_n dX2_init_13 0 rfl rfl ?_
  refine x_sipush (v := nI 3432) dX2_init_14 (by decide) ?_
  have p_0_1 := hc4
  refine x_newi (N := 3432) dX2_init_17 q204 rfl (by first | omega | decide) (by omega) (by omega) (fun a1 σ9 hn10 hb11 hc12 hu13 => ?_)
  have hc8 := ro_new hn10 hu13 _ _ hc8
  have hc4 := ro_new hn10 hu13 _ _ hc4
  have hn100 := Fr.nn hF hn10
  have hF := Fr.tr_ro hF (ro_new hn10 hu13)
  have hz1 : σ a1 = none := hn100
  have n_0_1 : a0 ≠ a1 := cell_nn hn10 p_0_1
  refine x_putF (fs' := [.ref a0, .ref a1, .null, .null, .null, .int 0, .int 0, .int 0, .int 0, .int 0, .null, .int 0, .null, .int 0, .int 0, .int 0, .null, .int 0]) dX2_init_19 vC_2 in_X2 tyX2_ok nmX2 hc8 1 (by decide) q1877 rfl rfl rfl rfl (rfl) (rfl) (Nat.le_of_ble_eq_true rfl) rfl (fun σ14 hc16 hu15 => ?_)
  have hc4 := at_put hu15 hc4 (cell_ne hc8 hc4 rfl)
  have hc12 := at_put hu15 hc12 (cell_ne hc8 hc12 rfl)
  have hF := Fr.put hF hc16 hu15 (Or.inl ⟨rfl, fun e he => by rw [hc8] at he; cases he; rfl⟩)
  refine x_aload_n dX2_init_22 0 rfl rfl ?_
  refine x_sipush (v := nI 429) dX2_init_23 (by decide) ?_
  have p_0_2 := hc4
  have p_1_2 := hc12
  refine x_newi (N := 429) dX2_init_26 q204 rfl (by first | omega | decide) (by omega) (by omega) (fun a2 σ17 hn18 hb19 hc20 hu21 => ?_)
  have hc16 := ro_new hn18 hu21 _ _ hc16
  have hc4 := ro_new hn18 hu21 _ _ hc4
  have hc12 := ro_new hn18 hu21 _ _ hc12
  have hn180 := Fr.nn hF hn18
  have hF := Fr.tr_ro hF (ro_new hn18 hu21)
  have hz2 : σ a2 = none := hn180
  have n_0_2 : a0 ≠ a2 := cell_nn hn18 p_0_2
  have n_1_2 : a1 ≠ a2 := cell_nn hn18 p_1_2
  refine x_putF (fs' := [.ref a0, .ref a1, .ref a2, .null, .null, .int 0, .int 0, .int 0, .int 0, .int 0, .null, .int 0, .null, .int 0, .int 0, .int 0, .null, .int 0]) dX2_init_28 vC_2 in_X2 tyX2_ok nmX2 hc16 2 (by decide) q1878 rfl rfl rfl rfl (rfl) (rfl) (Nat.le_of_ble_eq_true rfl) rfl (fun σ22 hc24 hu23 => ?_)
  have hc4 := at_put hu23 hc4 (cell_ne hc16 hc4 rfl)
  have hc12 := at_put hu23 hc12 (cell_ne hc16 hc12 rfl)
  have hc20 := at_put hu23 hc20 (cell_ne hc16 hc20 rfl)
  have hF := Fr.put hF hc24 hu23 (Or.inl ⟨rfl, fun e he => by rw [hc16] at he; cases he; rfl⟩)
  refine x_aload_n dX2_init_31 0 rfl rfl ?_
  refine x_sipush (v := nI 429) dX2_init_32 (by decide) ?_
  have p_0_3 := hc4
  have p_1_3 := hc12
  have p_2_3 := hc20
  refine x_newi (N := 429) dX2_init_35 q204 rfl (by first | omega | decide) (by omega) (by omega) (fun a3 σ25 hn26 hb27 hc28 hu29 => ?_)
  have hc24 := ro_new hn26 hu29 _ _ hc24
  have hc4 := ro_new hn26 hu29 _ _ hc4
  have hc12 := ro_new hn26 hu29 _ _ hc12
  have hc20 := ro_new hn26 hu29 _ _ hc20
  have hn260 := Fr.nn hF hn26
  have hF := Fr.tr_ro hF (ro_new hn26 hu29)
  have hz3 : σ a3 = none := hn260
  have n_0_3 : a0 ≠ a3 := cell_nn hn26 p_0_3
  have n_1_3 : a1 ≠ a3 := cell_nn hn26 p_1_3
  have n_2_3 : a2 ≠ a3 := cell_nn hn26 p_2_3
  refine x_putF (fs' := [.ref a0, .ref a1, .ref a2, .ref a3, .null, .int 0, .int 0, .int 0, .int 0, .int 0, .null, .int 0, .null, .int 0, .int 0, .int 0, .null, .int 0]) dX2_init_37 vC_2 in_X2 tyX2_ok nmX2 hc24 3 (by decide) q1879 rfl rfl rfl rfl (rfl) (rfl) (Nat.le_of_ble_eq_true rfl) rfl (fun σ30 hc32 hu31 => ?_)
  have hc4 := at_put hu31 hc4 (cell_ne hc24 hc4 rfl)
  have hc12 := at_put hu31 hc12 (cell_ne hc24 hc12 rfl)
  have hc20 := at_put hu31 hc20 (cell_ne hc24 hc20 rfl)
  have hc28 := at_put hu31 hc28 (cell_ne hc24 hc28 rfl)
  have hF := Fr.put hF hc32 hu31 (Or.inl ⟨rfl, fun e he => by rw [hc24] at he; cases he; rfl⟩)
  refine x_aload_n dX2_init_40 0 rfl rfl ?_
  refine x_sipush (v := nI 429) dX2_init_41 (by decide) ?_
  have p_0_4 := hc4
  have p_1_4 := hc12
  have p_2_4 := hc20
  have p_3_4 := hc28
  refine x_newi (N := 429) dX2_init_44 q204 rfl (by first | omega | decide) (by omega) (by omega) (fun a4 σ33 hn34 hb35 hc36 hu37 => ?_)
  have hc32 := ro_new hn34 hu37 _ _ hc32
  have hc4 := ro_new hn34 hu37 _ _ hc4
  have hc12 := ro_new hn34 hu37 _ _ hc12
  have hc20 := ro_new hn34 hu37 _ _ hc20
  have hc28 := ro_new hn34 hu37 _ _ hc28
  have hn340 := Fr.nn hF hn34
  have hF := Fr.tr_ro hF (ro_new hn34 hu37)
  have hz4 : σ a4 = none := hn340
  have n_0_4 : a0 ≠ a4 := cell_nn hn34 p_0_4
  have n_1_4 : a1 ≠ a4 := cell_nn hn34 p_1_4
  have n_2_4 : a2 ≠ a4 := cell_nn hn34 p_2_4
  have n_3_4 : a3 ≠ a4 := cell_nn hn34 p_3_4
  refine x_putF (fs' := [.ref a0, .ref a1, .ref a2, .ref a3, .ref a4, .int 0, .int 0, .int 0, .int 0, .int 0, .null, .int 0, .null, .int 0, .int 0, .int 0, .null, .int 0]) dX2_init_46 vC_2 in_X2 tyX2_ok nmX2 hc32 4 (by decide) q1880 rfl rfl rfl rfl (rfl) (rfl) (Nat.le_of_ble_eq_true rfl) rfl (fun σ38 hc40 hu39 => ?_)
  have hc4 := at_put hu39 hc4 (cell_ne hc32 hc4 rfl)
  have hc12 := at_put hu39 hc12 (cell_ne hc32 hc12 rfl)
  have hc20 := at_put hu39 hc20 (cell_ne hc32 hc20 rfl)
  have hc28 := at_put hu39 hc28 (cell_ne hc32 hc28 rfl)
  have hc36 := at_put hu39 hc36 (cell_ne hc32 hc36 rfl)
  have hF := Fr.put hF hc40 hu39 (Or.inl ⟨rfl, fun e he => by rw [hc32] at he; cases he; rfl⟩)
  refine x_aload_n dX2_init_49 0 rfl rfl ?_
  refine x_bipush (v := nI 60) dX2_init_50 (by decide) ?_
  have p_0_10 := hc4
  have p_1_10 := hc12
  have p_2_10 := hc20
  have p_3_10 := hc28
  have p_4_10 := hc36
  refine x_newi (N := 60) dX2_init_52 q204 rfl (by first | omega | decide) (by omega) (by omega) (fun a10 σ41 hn42 hb43 hc44 hu45 => ?_)
  have hc40 := ro_new hn42 hu45 _ _ hc40
  have hc4 := ro_new hn42 hu45 _ _ hc4
  have hc12 := ro_new hn42 hu45 _ _ hc12
  have hc20 := ro_new hn42 hu45 _ _ hc20
  have hc28 := ro_new hn42 hu45 _ _ hc28
  have hc36 := ro_new hn42 hu45 _ _ hc36
  have hn420 := Fr.nn hF hn42
  have hF := Fr.tr_ro hF (ro_new hn42 hu45)
  have hz10 : σ a10 = none := hn420
  have n_0_10 : a0 ≠ a10 := cell_nn hn42 p_0_10
  have n_1_10 : a1 ≠ a10 := cell_nn hn42 p_1_10
  have n_2_10 : a2 ≠ a10 := cell_nn hn42 p_2_10
  have n_3_10 : a3 ≠ a10 := cell_nn hn42 p_3_10
  have n_4_10 : a4 ≠ a10 := cell_nn hn42 p_4_10
  refine x_putF (fs' := [.ref a0, .ref a1, .ref a2, .ref a3, .ref a4, .int 0, .int 0, .int 0, .int 0, .int 0, .ref a10, .int 0, .null, .int 0, .int 0, .int 0, .null, .int 0]) dX2_init_54 vC_2 in_X2 tyX2_ok nmX2 hc40 10 (by decide) q1886 rfl rfl rfl rfl (rfl) (rfl) (Nat.le_of_ble_eq_true rfl) rfl (fun σ46 hc48 hu47 => ?_)
  have hc4 := at_put hu47 hc4 (cell_ne hc40 hc4 rfl)
  have hc12 := at_put hu47 hc12 (cell_ne hc40 hc12 rfl)
  have hc20 := at_put hu47 hc20 (cell_ne hc40 hc20 rfl)
  have hc28 := at_put hu47 hc28 (cell_ne hc40 hc28 rfl)
  have hc36 := at_put hu47 hc36 (cell_ne hc40 hc36 rfl)
  have hc44 := at_put hu47 hc44 (cell_ne hc40 hc44 rfl)
  have hF := Fr.put hF hc48 hu47 (Or.inl ⟨rfl, fun e he => by rw [hc40] at he; cases he; rfl⟩)
  refine x_aload_n dX2_init_57 0 rfl rfl ?_
  refine x_sipush (v := nI 200) dX2_init_58 (by decide) ?_
  have p_0_12 := hc4
  have p_1_12 := hc12
  have p_2_12 := hc20
  have p_3_12 := hc28
  have p_4_12 := hc36
  have p_10_12 := hc44
  refine x_newc (N := 200) dX2_init_61 q1931 rfl (by first | omega | decide) (by omega) (by omega) (fun a12 σ49 hn50 hb51 hc52 hu53 => ?_)
  have hc48 := ro_new hn50 hu53 _ _ hc48
  have hc4 := ro_new hn50 hu53 _ _ hc4
  have hc12 := ro_new hn50 hu53 _ _ hc12
  have hc20 := ro_new hn50 hu53 _ _ hc20
  have hc28 := ro_new hn50 hu53 _ _ hc28
  have hc36 := ro_new hn50 hu53 _ _ hc36
  have hc44 := ro_new hn50 hu53 _ _ hc44
  have hn500 := Fr.nn hF hn50
  have hF := Fr.tr_ro hF (ro_new hn50 hu53)
  have hz12 : σ a12 = none := hn500
  have n_0_12 : a0 ≠ a12 := cell_nn hn50 p_0_12
  have n_1_12 : a1 ≠ a12 := cell_nn hn50 p_1_12
  have n_2_12 : a2 ≠ a12 := cell_nn hn50 p_2_12
  have n_3_12 : a3 ≠ a12 := cell_nn hn50 p_3_12
  have n_4_12 : a4 ≠ a12 := cell_nn hn50 p_4_12
  have n_10_12 : a10 ≠ a12 := cell_nn hn50 p_10_12
  refine x_putF (fs' := [.ref a0, .ref a1, .ref a2, .ref a3, .ref a4, .int 0, .int 0, .int 0, .int 0, .int 0, .ref a10, .int 0, .ref a12, .int 0, .int 0, .int 0, .null, .int 0]) dX2_init_63 vC_2 in_X2 tyX2_ok nmX2 hc48 12 (by decide) q1888 rfl rfl rfl rfl (rfl) (rfl) (Nat.le_of_ble_eq_true rfl) rfl (fun σ54 hc56 hu55 => ?_)
  have hc4 := at_put hu55 hc4 (cell_ne hc48 hc4 rfl)
  have hc12 := at_put hu55 hc12 (cell_ne hc48 hc12 rfl)
  have hc20 := at_put hu55 hc20 (cell_ne hc48 hc20 rfl)
  have hc28 := at_put hu55 hc28 (cell_ne hc48 hc28 rfl)
  have hc36 := at_put hu55 hc36 (cell_ne hc48 hc36 rfl)
  have hc44 := at_put hu55 hc44 (cell_ne hc48 hc44 rfl)
  have hc52 := at_put hu55 hc52 (cell_ne hc48 hc52 rfl)
  have hF := Fr.put hF hc56 hu55 (Or.inl ⟨rfl, fun e he => by rw [hc48] at he; cases he; rfl⟩)
  refine x_aload_n dX2_init_66 0 rfl rfl ?_
  refine x_bipush (v := nI 93) dX2_init_67 (by decide) ?_
  have p_0_16 := hc4
  have p_1_16 := hc12
  have p_2_16 := hc20
  have p_3_16 := hc28
  have p_4_16 := hc36
  have p_10_16 := hc44
  have p_12_16 := hc52
  refine x_newi (N := 93) dX2_init_69 q204 rfl (by first | omega | decide) (by omega) (by omega) (fun a16 σ57 hn58 hb59 hc60 hu61 => ?_)
  have hc56 := ro_new hn58 hu61 _ _ hc56
  have hc4 := ro_new hn58 hu61 _ _ hc4
  have hc12 := ro_new hn58 hu61 _ _ hc12
  have hc20 := ro_new hn58 hu61 _ _ hc20
  have hc28 := ro_new hn58 hu61 _ _ hc28
  have hc36 := ro_new hn58 hu61 _ _ hc36
  have hc44 := ro_new hn58 hu61 _ _ hc44
  have hc52 := ro_new hn58 hu61 _ _ hc52
  have hn580 := Fr.nn hF hn58
  have hF := Fr.tr_ro hF (ro_new hn58 hu61)
  have hz16 : σ a16 = none := hn580
  have n_0_16 : a0 ≠ a16 := cell_nn hn58 p_0_16
  have n_1_16 : a1 ≠ a16 := cell_nn hn58 p_1_16
  have n_2_16 : a2 ≠ a16 := cell_nn hn58 p_2_16
  have n_3_16 : a3 ≠ a16 := cell_nn hn58 p_3_16
  have n_4_16 : a4 ≠ a16 := cell_nn hn58 p_4_16
  have n_10_16 : a10 ≠ a16 := cell_nn hn58 p_10_16
  have n_12_16 : a12 ≠ a16 := cell_nn hn58 p_12_16
  refine x_putF (fs' := [.ref a0, .ref a1, .ref a2, .ref a3, .ref a4, .int 0, .int 0, .int 0, .int 0, .int 0, .ref a10, .int 0, .ref a12, .int 0, .int 0, .int 0, .ref a16, .int 0]) dX2_init_71 vC_2 in_X2 tyX2_ok nmX2 hc56 16 (by decide) q1892 rfl rfl rfl rfl (rfl) (rfl) (Nat.le_of_ble_eq_true rfl) rfl (fun σ62 hc64 hu63 => ?_)
  have hc4 := at_put hu63 hc4 (cell_ne hc56 hc4 rfl)
  have hc12 := at_put hu63 hc12 (cell_ne hc56 hc12 rfl)
  have hc20 := at_put hu63 hc20 (cell_ne hc56 hc20 rfl)
  have hc28 := at_put hu63 hc28 (cell_ne hc56 hc28 rfl)
  have hc36 := at_put hu63 hc36 (cell_ne hc56 hc36 rfl)
  have hc44 := at_put hu63 hc44 (cell_ne hc56 hc44 rfl)
  have hc52 := at_put hu63 hc52 (cell_ne hc56 hc52 rfl)
  have hc60 := at_put hu63 hc60 (cell_ne hc56 hc60 rfl)
  have hF := Fr.put hF hc64 hu63 (Or.inl ⟨rfl, fun e he => by rw [hc56] at he; cases he; rfl⟩)
  obtain ⟨adf, hadf⟩ : ∃ adf : Nat → Nat, adf = fun k => if k = 0 then a0 else if k = 1 then a1 else if k = 2 then a2 else if k = 3 then a3 else if k = 4 then a4 else if k = 10 then a10 else if k = 12 then a12 else a16 := ⟨_, rfl⟩
  have e0 : adf 0 = a0 := by rw [hadf]; rfl
  have e1 : adf 1 = a1 := by rw [hadf]; rfl
  have e2 : adf 2 = a2 := by rw [hadf]; rfl
  have e3 : adf 3 = a3 := by rw [hadf]; rfl
  have e4 : adf 4 = a4 := by rw [hadf]; rfl
  have e10 : adf 10 = a10 := by rw [hadf]; rfl
  have e12 : adf 12 = a12 := by rw [hadf]; rfl
  have e16 : adf 16 = a16 := by rw [hadf]; rfl
  refine x_vret dX2_init_74 rfl ⟨rfl, ⟨adf, (fun _ _ => 0, fun _ => 0), ⟨?_, fun k hk => ?_, fun i j hi hj h => ?_⟩, init_SR, fun k hk => ?_⟩, fun q hq hne => hF.stays hq hne⟩
  · show _ = (some (.inr (2, [.ref (adf 0), .ref (adf 1), .ref (adf 2), .ref (adf 3), .ref (adf 4), .int 0, .int 0, .int 0, .int 0, .int 0, .ref (adf 10), .int 0, .ref (adf 12), .int 0, .int 0, .int 0, .ref (adf 16), .int 0])) : Option Ent)
    rw [e0, e1, e2, e3, e4, e10, e12, e16]; exact hc64
  · rcases mIs_cases hk with rfl | rfl | rfl | rfl | rfl | rfl | rfl | rfl
    · rw [e0]; exact hc4
    · rw [e1]; exact hc12
    · rw [e2]; exact hc20
    · rw [e3]; exact hc28
    · rw [e4]; exact hc36
    · rw [e10]; exact hc44
    · rw [e12]; exact hc52
    · rw [e16]; exact hc60
  · rcases mIs_cases hi with rfl | rfl | rfl | rfl | rfl | rfl | rfl | rfl
    · rcases mIs_cases hj with rfl | rfl | rfl | rfl | rfl | rfl | rfl | rfl
      · rfl
      · rw [e0, e1] at h; exact absurd h n_0_1
      · rw [e0, e2] at h; exact absurd h n_0_2
      · rw [e0, e3] at h; exact absurd h n_0_3
      · rw [e0, e4] at h; exact absurd h n_0_4
      · rw [e0, e10] at h; exact absurd h n_0_10
      · rw [e0, e12] at h; exact absurd h n_0_12
      · rw [e0, e16] at h; exact absurd h n_0_16
    · rcases mIs_cases hj with rfl | rfl | rfl | rfl | rfl | rfl | rfl | rfl
      · rw [e1, e0] at h; exact absurd h (fun z => n_0_1 z.symm)
      · rfl
      · rw [e1, e2] at h; exact absurd h n_1_2
      · rw [e1, e3] at h; exact absurd h n_1_3
      · rw [e1, e4] at h; exact absurd h n_1_4
      · rw [e1, e10] at h; exact absurd h n_1_10
      · rw [e1, e12] at h; exact absurd h n_1_12
      · rw [e1, e16] at h; exact absurd h n_1_16
    · rcases mIs_cases hj with rfl | rfl | rfl | rfl | rfl | rfl | rfl | rfl
      · rw [e2, e0] at h; exact absurd h (fun z => n_0_2 z.symm)
      · rw [e2, e1] at h; exact absurd h (fun z => n_1_2 z.symm)
      · rfl
      · rw [e2, e3] at h; exact absurd h n_2_3
      · rw [e2, e4] at h; exact absurd h n_2_4
      · rw [e2, e10] at h; exact absurd h n_2_10
      · rw [e2, e12] at h; exact absurd h n_2_12
      · rw [e2, e16] at h; exact absurd h n_2_16
    · rcases mIs_cases hj with rfl | rfl | rfl | rfl | rfl | rfl | rfl | rfl
      · rw [e3, e0] at h; exact absurd h (fun z => n_0_3 z.symm)
      · rw [e3, e1] at h; exact absurd h (fun z => n_1_3 z.symm)
      · rw [e3, e2] at h; exact absurd h (fun z => n_2_3 z.symm)
      · rfl
      · rw [e3, e4] at h; exact absurd h n_3_4
      · rw [e3, e10] at h; exact absurd h n_3_10
      · rw [e3, e12] at h; exact absurd h n_3_12
      · rw [e3, e16] at h; exact absurd h n_3_16
    · rcases mIs_cases hj with rfl | rfl | rfl | rfl | rfl | rfl | rfl | rfl
      · rw [e4, e0] at h; exact absurd h (fun z => n_0_4 z.symm)
      · rw [e4, e1] at h; exact absurd h (fun z => n_1_4 z.symm)
      · rw [e4, e2] at h; exact absurd h (fun z => n_2_4 z.symm)
      · rw [e4, e3] at h; exact absurd h (fun z => n_3_4 z.symm)
      · rfl
      · rw [e4, e10] at h; exact absurd h n_4_10
      · rw [e4, e12] at h; exact absurd h n_4_12
      · rw [e4, e16] at h; exact absurd h n_4_16
    · rcases mIs_cases hj with rfl | rfl | rfl | rfl | rfl | rfl | rfl | rfl
      · rw [e10, e0] at h; exact absurd h (fun z => n_0_10 z.symm)
      · rw [e10, e1] at h; exact absurd h (fun z => n_1_10 z.symm)
      · rw [e10, e2] at h; exact absurd h (fun z => n_2_10 z.symm)
      · rw [e10, e3] at h; exact absurd h (fun z => n_3_10 z.symm)
      · rw [e10, e4] at h; exact absurd h (fun z => n_4_10 z.symm)
      · rfl
      · rw [e10, e12] at h; exact absurd h n_10_12
      · rw [e10, e16] at h; exact absurd h n_10_16
    · rcases mIs_cases hj with rfl | rfl | rfl | rfl | rfl | rfl | rfl | rfl
      · rw [e12, e0] at h; exact absurd h (fun z => n_0_12 z.symm)
      · rw [e12, e1] at h; exact absurd h (fun z => n_1_12 z.symm)
      · rw [e12, e2] at h; exact absurd h (fun z => n_2_12 z.symm)
      · rw [e12, e3] at h; exact absurd h (fun z => n_3_12 z.symm)
      · rw [e12, e4] at h; exact absurd h (fun z => n_4_12 z.symm)
      · rw [e12, e10] at h; exact absurd h (fun z => n_10_12 z.symm)
      · rfl
      · rw [e12, e16] at h; exact absurd h n_12_16
    · rcases mIs_cases hj with rfl | rfl | rfl | rfl | rfl | rfl | rfl | rfl
      · rw [e16, e0] at h; exact absurd h (fun z => n_0_16 z.symm)
      · rw [e16, e1] at h; exact absurd h (fun z => n_1_16 z.symm)
      · rw [e16, e2] at h; exact absurd h (fun z => n_2_16 z.symm)
      · rw [e16, e3] at h; exact absurd h (fun z => n_3_16 z.symm)
      · rw [e16, e4] at h; exact absurd h (fun z => n_4_16 z.symm)
      · rw [e16, e10] at h; exact absurd h (fun z => n_10_16 z.symm)
      · rw [e16, e12] at h; exact absurd h (fun z => n_12_16 z.symm)
      · rfl
  · rcases mIs_cases hk with rfl | rfl | rfl | rfl | rfl | rfl | rfl | rfl
    · rw [e0]; exact hz0
    · rw [e1]; exact hz1
    · rw [e2]; exact hz2
    · rw [e3]; exact hz3
    · rw [e4]; exact hz4
    · rw [e10]; exact hz10
    · rw [e12]; exact hz12
    · rw [e16]; exact hz16
