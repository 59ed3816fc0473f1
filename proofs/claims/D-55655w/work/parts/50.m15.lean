set_option maxRecDepth 100000
/-- only the reader's own numbers are written -/
def MT (M N : MS) : Prop := (∀ i, i ≠ 16 → N.1 i = M.1 i) ∧ ∀ j, j ≠ 15 → j ≠ 17 → N.2 j = M.2 j
theorem MT.rf {M : MS} : MT M M := ⟨fun _ _ => rfl, fun _ _ _ => rfl⟩
theorem MT.tr {M N K : MS} (h1 : MT M N) (h2 : MT N K) : MT M K := ⟨fun i h => (h2.1 i h).trans (h1.1 i h), fun j a b => (h2.2 j a b).trans (h1.2 j a b)⟩
theorem MT.s15 {M : MS} {v : Int32} : MT M (mS M 15 v) := ⟨fun _ _ => rfl, fun j a _ => if_neg a⟩
theorem MT.s17 {M : MS} {v : Int32} : MT M (mS M 17 v) := ⟨fun _ _ => rfl, fun j _ b => if_neg b⟩
theorem MT.a16 {M : MS} {f : Nat → Int32} : MT M (mA M 16 f) := ⟨fun i h => if_neg h, fun _ _ _ => rfl⟩
theorem MT.tx {M N : MS} (h : MT M N) {t : List Nat} (ht : TX M t) : TX N t := ⟨ht.1, (h.2 11 (by decide) (by decide)).trans ht.2.1, fun i c hc => by rw [h.1 10 (by decide)]; exact ht.2.2 i c hc⟩
def hereV (t : List Nat) (p : Nat) : Int32 := match t[p]? with
  | none => -1
  | some c => nI c
theorem hereV_s {t : List Nat} {p c : Nat} (h : t[p]? = some c) : hereV t p = nI c := by unfold hereV; rw [h]
theorem hereV_n {t : List Nat} {p : Nat} (h : t[p]? = none) : hereV t p = -1 := by unfold hereV; rw [h]
theorem TX.lt {M : MS} {t : List Nat} (h : TX M t) {p c : Nat} (hp : t[p]? = some c) : c < 127 := by have := (h.2.2 p c hp).2.2; omega
theorem hereV_eq {M : MS} {t : List Nat} (h : TX M t) {p c : Nat} (hc : c < 2 ^ 31) : hereV t p = nI c ↔ t[p]? = some c := by
  cases hp : t[p]? with
  | none =>
    rw [hereV_n hp]
    constructor
    · intro z; exact absurd z (m1_ne hc)
    · intro z; cases z
  | some x =>
    rw [hereV_s hp]
    have := h.lt hp
    constructor
    · intro z; rw [nEq (by omega) hc z]
    · intro z; cases z; rfl
theorem hereV_dg {M : MS} {t : List Nat} (h : TX M t) {p : Nat} : (decide (nI 48 ≤ hereV t p) && decide (hereV t p ≤ nI 57)) = isDg t[p]? := by
  cases hp : t[p]? with
  | none => rw [hereV_n hp]; rfl
  | some x =>
    have := h.lt hp
    rw [hereV_s hp]
    show _ = (decide (48 ≤ x) && decide (x ≤ 57))
    rw [show decide (nI 48 ≤ nI x) = decide (48 ≤ x) from decide_eq_decide.mpr (nI_leI (by decide) (by omega)), show decide (nI x ≤ nI 57) = decide (x ≤ 57) from decide_eq_decide.mpr (nI_leI (by omega) (by decide))]
theorem nI_sub {a b : Nat} (h : b ≤ a) : nI a - nI b = nI (a - b) := by
  have e : nI a = nI (a - b) + nI b := by rw [nI_add, Nat.sub_add_cancel h]
  rw [e]
  show nI (a - b) + nI b - nI b = nI (a - b)
  rw [Int32.sub_eq_add_neg, Int32.add_assoc, Int32.add_right_neg, Int32.add_zero]
set_option maxHeartbeats 4000000 in
set_option maxRecDepth 100000 in
theorem con_X2_append {l : Launch} {G : YG} {σ : AH} {a : Nat} {ad : Nat → Nat} {M : MS} {t : List Nat} {v : Int32} (hM : MAt σ a ad M) (hT : TX M t) : Con l yX2_append cX2_append 2 (some FieldType.int) G 1 0 0 [.ref a, .int v] σ (PI fun z τ => z = (qAppend t v).1 ∧ ∃ N, MAt τ a ad N ∧ MF a ad σ τ ∧ TX N (qAppend t v).2 ∧ (∀ i, i ≠ 10 → N.1 i = M.1 i) ∧ ∀ j, j ≠ 11 → N.2 j = M.2 j) := by
  refine con_of (by decide) (Nat.le_of_ble_eq_true rfl) ?_
  refine x_locs (L' := [(0, .ref a), (1, .int v)]) [0, 1] rfl ?_
  have hl := hT.1
  refine x_iload_n dX2_append_0 1 rfl rfl ?_
  refine x_bipush (v := nI 32) dX2_append_1 (by decide) ?_
  refine x_bipush (v := nI 126) dX2_append_3 (by decide) ?_
  refine x_callS dX2_append_5 (con_X2_in (v := v) (lo := nI 32) (hi := nI 126)) (lw_S q1963 q1964 q101 q1965) (np := 3) (by decide +kernel) rfl ⟨Nat.le_of_ble_eq_true rfl, Nat.le_of_ble_eq_true rfl⟩ (Nat.le_of_ble_eq_true rfl) rfl (by decide) (by decide) (rS ?_) nI'
  refine x_if_ne (tgt := 14) dX2_append_8 (by decide) (fun c1 => ?_) (fun c1 => ?_)
  · have c1 := bI_1 c1
    refine x_aload_n dX2_append_14 0 rfl rfl ?_
    refine x_get dX2_append_15 vC_2 in_X2 hM.1 11 (by decide) q1887 rfl ?_
    refine x_top (x' := nI t.length) (hT.2.1) ?_
    refine x_bipush (v := nI 60) dX2_append_18 (by decide) ?_
    refine x_icmp_ne (tgt := 26) dX2_append_20 (by decide) (fun c2 => ?_) (fun c2 => ?_)
    · have c2 : t.length ≠ 60 := nNe (by omega) (by omega) c2
      have hco : qAppend t v = (nI (t.length + 1), t ++ [iN v]) := by unfold qAppend; rw [c1, if_neg c2]; rfl
      have c3 := c1
      simp only [Bool.and_eq_true, decide_eq_true_eq] at c3
      obtain ⟨x, hx, rfl, hxn⟩ := i32_of (n := 127) (Int32.le_trans (by decide) c3.1) (le_lt_succ (by decide) c3.2) (by decide)
      have hx32 : 32 ≤ x := nLe (by decide) (by omega) c3.1
      refine x_aload_n dX2_append_26 0 rfl rfl ?_
      refine x_get dX2_append_27 vC_2 in_X2 hM.1 10 (by decide) q1886 rfl ?_
      refine x_aload_n dX2_append_30 0 rfl rfl ?_
      refine x_get dX2_append_31 vC_2 in_X2 hM.1 11 (by decide) q1887 rfl ?_
      refine x_top (x' := nI t.length) (hT.2.1) ?_
      refine x_iload_n dX2_append_34 1 rfl rfl ?_
      refine x_iast (N := 60) (j := t.length) (w := nI x) dX2_append_35 (hM.2.1 10 rfl) rfl (by omega) (by decide) (fun σ8 g8 f8 => ?_)
      obtain ⟨hA8, hF8⟩ := hM.arr (k := 10) rfl g8 f8
      refine x_aload_n dX2_append_36 0 rfl rfl ?_
      refine x_dup dX2_append_37 rfl ?_
      refine x_get dX2_append_38 vC_2 in_X2 hA8.1 11 (by decide) q1887 rfl ?_
      refine x_top (x' := nI t.length) (hT.2.1) ?_
      refine x_iconst (v := nI 1) dX2_append_41 (by decide) ?_
      refine x_iadd dX2_append_42 ?_
      refine x_top (x' := nI (t.length + 1)) (nI_add _ _) ?_
      refine x_put (fs' := mFs ad (mS (mA M 10 (upd (M.1 10) t.length (nI x))) 11 (nI (t.length + 1)))) dX2_append_43 vC_2 in_X2 tyX2_ok nmX2 hA8.1 11 (by decide) q1887 rfl rfl (rfl) (rfl) (Nat.le_of_ble_eq_true rfl) rfl (fun σ2 h3 h4 => ?_)
      obtain ⟨hAM5, hBM5⟩ := hA8.fld (k := 11) (v := nI (t.length + 1)) h3 h4
      refine x_aload_n dX2_append_46 0 rfl rfl ?_
      refine x_get dX2_append_47 vC_2 in_X2 hAM5.1 11 (by decide) q1887 rfl ?_
      refine x_top (x' := nI (t.length + 1)) (rfl) ?_
      exact x_iret dX2_append_50 rfl (⟨_, rfl, by rw [hco], _, hAM5, (MF.tr hF8 hBM5), by rw [hco]; refine ⟨by rw [List.length_append]; show t.length + 1 ≤ 60; omega, by rw [List.length_append]; rfl, fun i c hc => ?_⟩; show upd (M.1 10) t.length (nI x) i = _ ∧ _; rw [List.getElem?_append] at hc; (split at hc); (rw [pk_un (by omega)]; exact hT.2.2 i c hc); (have hi := (List.getElem?_eq_some_iff.mp hc).1; have hie : i = t.length := (by simp at hi; omega); subst hie; rw [Nat.sub_self] at hc; cases hc; rw [pk_us, show iN (nI x) = x from hxn]; exact ⟨rfl, hx32, by omega⟩), fun i hi => if_neg hi, fun j hj => if_neg hj⟩)
    · have c2 : t.length = 60 := nEq (by omega) (by omega) c2
      have hco : qAppend t v = (-13, t) := by unfold qAppend; rw [c1, if_pos c2]; rfl
      refine x_bipush (v := (-13)) dX2_append_23 (by decide) ?_
      exact x_iret dX2_append_25 rfl (⟨_, rfl, by rw [hco], M, hM, MF.rf, by rw [hco]; exact hT, fun _ _ => rfl, fun _ _ => rfl⟩)
  · have c1 := bI_0 c1
    have hco : qAppend t v = (-12, t) := by unfold qAppend; rw [c1]; rfl
    refine x_bipush (v := (-12)) dX2_append_11 (by decide) ?_
    exact x_iret dX2_append_13 rfl (⟨_, rfl, by rw [hco], M, hM, MF.rf, by rw [hco]; exact hT, fun _ _ => rfl, fun _ _ => rfl⟩)
set_option maxHeartbeats 4000000 in
set_option maxRecDepth 100000 in
theorem con_X2_here {l : Launch} {G : YG} {σ : AH} {a : Nat} {ad : Nat → Nat} {M : MS} {t : List Nat} {p : Nat} (hM : MAt σ a ad M) (hT : TX M t) (h15 : M.2 15 = nI p) (hp : p ≤ t.length) : Con l yX2_here cX2_here 1 (some FieldType.int) G 0 0 0 [.ref a] σ (PS σ (hereV t p)) := by
  refine con_of (by decide) (Nat.le_of_ble_eq_true rfl) ?_
  refine x_locs (L' := [(0, .ref a)]) [0] rfl ?_
  have hl := hT.1
  refine x_aload_n dX2_here_0 0 rfl rfl ?_
  refine x_get dX2_here_1 vC_2 in_X2 hM.1 15 (by decide) q1891 rfl ?_
  refine x_top (x' := nI p) (h15) ?_
  refine x_aload_n dX2_here_4 0 rfl rfl ?_
  refine x_get dX2_here_5 vC_2 in_X2 hM.1 11 (by decide) q1887 rfl ?_
  refine x_top (x' := nI t.length) (hT.2.1) ?_
  refine x_icmp_ge (tgt := 23) dX2_here_8 (by decide) (fun c1 => ?_) (fun c1 => ?_)
  · have c1 := nLe (by omega) (by omega) c1
    refine x_iconst (v := (-1)) dX2_here_23 (by decide) ?_
    exact x_iret dX2_here_24 rfl (pS' (by rw [hereV_n (List.getElem?_eq_none c1)]))
  · have c1 := nNle (by omega) (by omega) c1
    obtain ⟨c, hc⟩ : ∃ c, t[p]? = some c := ⟨_, List.getElem?_eq_getElem c1⟩
    refine x_aload_n dX2_here_11 0 rfl rfl ?_
    refine x_get dX2_here_12 vC_2 in_X2 hM.1 10 (by decide) q1886 rfl ?_
    refine x_aload_n dX2_here_15 0 rfl rfl ?_
    refine x_get dX2_here_16 vC_2 in_X2 hM.1 15 (by decide) q1891 rfl ?_
    refine x_top (x' := nI p) (h15) ?_
    refine x_iald (N := 60) (j := p) (v := nI c) dX2_here_19 (hM.2.1 10 rfl) (rfl) (by omega) (by decide) ((hT.2.2 p c hc).1) ?_
    refine x_goto (tgt := 24) dX2_here_20 (by decide) ?_
    exact x_iret dX2_here_24 rfl (pS' (by rw [hereV_s hc]))
set_option maxHeartbeats 4000000 in
set_option maxRecDepth 100000 in
theorem con_X2_skips {l : Launch} {G : YG} {σ : AH} {a : Nat} {ad : Nat → Nat} {M : MS} {t : List Nat} {p c : Nat} (hM : MAt σ a ad M) (hT : TX M t) (h15 : M.2 15 = nI p) (hp : p ≤ t.length) (hc : c < 2 ^ 31) : Con l yX2_skips cX2_skips 2 (some FieldType.boolean) G 1 0 0 [.ref a, .int (nI c)] σ (PI fun z τ => if t[p]? = some c then z = 1 ∧ MAt τ a ad (mS M 15 (nI (p + 1))) ∧ MF a ad σ τ else z = 0 ∧ τ = σ) := by
  refine con_of (by decide) (Nat.le_of_ble_eq_true rfl) ?_
  refine x_locs (L' := [(0, .ref a), (1, .int (nI c))]) [0, 1] rfl ?_
  refine x_aload_n dX2_skips_0 0 rfl rfl ?_
  refine x_callV dX2_skips_1 (con_X2_here hM hT h15 hp) (lw_V q2158 q2160 qs74 q101 q2161) (np := 0) (by decide +kernel) rfl (rcv_of vC_2 hM.1) ⟨Nat.le_of_ble_eq_true rfl, Nat.le_of_ble_eq_true rfl⟩ (Nat.le_of_ble_eq_true rfl) rfl (by decide) (by decide) (rS ?_) nI'
  refine x_iload_n dX2_skips_4 1 rfl rfl ?_
  refine x_icmp_eq (tgt := 10) dX2_skips_5 (by decide) (fun c1 => ?_) (fun c1 => ?_)
  · have c1 := (hereV_eq hT hc).mp c1
    refine x_aload_n dX2_skips_10 0 rfl rfl ?_
    refine x_dup dX2_skips_11 rfl ?_
    refine x_get dX2_skips_12 vC_2 in_X2 hM.1 15 (by decide) q1891 rfl ?_
    refine x_top (x' := nI p) (h15) ?_
    refine x_iconst (v := nI 1) dX2_skips_15 (by decide) ?_
    refine x_iadd dX2_skips_16 ?_
    refine x_top (x' := nI (p + 1)) (nI_add _ _) ?_
    refine x_put (fs' := mFs ad (mS M 15 (nI (p + 1)))) dX2_skips_17 vC_2 in_X2 tyX2_ok nmX2 hM.1 15 (by decide) q1891 rfl rfl (rfl) (rfl) (Nat.le_of_ble_eq_true rfl) rfl (fun σ2 h3 h4 => ?_)
    obtain ⟨hAM5, hBM5⟩ := hM.fld (k := 15) (v := nI (p + 1)) h3 h4
    refine x_iconst (v := nI 1) dX2_skips_20 (by decide) ?_
    exact x_zret dX2_skips_21 rfl (rfl) (⟨_, rfl, ite_y c1 ⟨rfl, hAM5, (MF.tr MF.rf hBM5)⟩⟩)
  · have c1 : ¬ t[p]? = some c := fun z => c1 ((hereV_eq hT hc).mpr z)
    refine x_iconst (v := nI 0) dX2_skips_8 (by decide) ?_
    exact x_zret dX2_skips_9 rfl (rfl) (⟨_, rfl, ite_n c1 ⟨rfl, rfl⟩⟩)
theorem mS_self {M : MS} {k : Nat} : mS M k (M.2 k) = M := by
  unfold mS
  congr 1
  funext i
  by_cases e : i = k
  · subst e; rw [if_pos rfl]
  · rw [if_neg e]
theorem mS_mS {M : MS} {k : Nat} {v w : Int32} : mS (mS M k v) k w = mS M k w := by
  unfold mS
  congr 1
  funext i
  by_cases e : i = k
  · subst e; rw [if_pos rfl, if_pos rfl]
  · rw [if_neg e, if_neg e]; exact if_neg e
set_option maxHeartbeats 4000000 in
set_option maxRecDepth 100000 in
theorem con_X2_word {l : Launch} {G : YG} {σ : AH} {a : Nat} {ad : Nat → Nat} {M : MS} {t W : List Nat} {p q : Nat} (hM : MAt σ a ad M) (hT : TX M t) (h15 : M.2 15 = nI p) (hp : p ≤ t.length) (hq : StrAt G σ q W) (hqm : ∀ τ, MF a ad σ τ → StrAt G τ q W) (hWl : W.length < 100) : Con l yX2_word cX2_word 3 (some FieldType.boolean) G 4 0 0 [.ref a, .ref q] σ (PI fun z τ => z = bI (pWord t W p).1 ∧ ∃ v, MAt τ a ad (mS M 15 v) ∧ MF a ad σ τ ∧ v = nI (pWord t W p).2) := by
  refine con_of (by decide) (Nat.le_of_ble_eq_true rfl) ?_
  refine x_locs (L' := [(0, .ref a), (1, .ref q)]) [0, 1] rfl ?_
  refine x_iconst (v := nI 0) dX2_word_0 (by decide) ?_
  refine x_istore_n (i := 2) (L' := [(2, .int (nI 0)), (0, .ref a), (1, .ref q)]) dX2_word_1 rfl (by decide) rfl ?_
  refine x_locs (L' := [(0, .ref a), (1, .ref q), (2, .int (nI 0))]) [1, 2, 0] rfl ?_
  suffices loop : ∀ (d i p2 : Nat) (τ : AH) (v : Int32), i + d = W.length → p2 ≤ t.length → MAt τ a ad (mS M 15 v) → MF a ad σ τ → v = nI p2 → pWord t W p = pWord t (W.drop i) p2 → X l yX2_word cX2_word 3 (some FieldType.boolean) [] G (yroom 4 0 0) (yEnd G (yroom 4 0 0) (PI fun z τ => z = bI (pWord t W p).1 ∧ ∃ v, MAt τ a ad (mS M 15 v) ∧ MF a ad σ τ ∧ v = nI (pWord t W p).2)) 2 [(0, .ref a), (1, .ref q), (2, .int (nI i))] [] τ 0 0 from loop W.length 0 p σ (M.2 15) (Nat.zero_add _) hp (by rw [mS_self]; exact hM) MF.rf h15 rfl
  intro d
  induction d with
  | zero =>
    intro i p2 τ v hi hp2 hN hFN hv he
    have hin : i = W.length := by omega
    subst hin
    rw [List.drop_length] at he
    have he : pWord t W p = (true, p2) := he
    refine x_iload_n dX2_word_2 2 rfl rfl ?_
    refine x_aload_n dX2_word_3 1 rfl rfl ?_
    refine x_callV dX2_word_4 (con_J11_length (hqm _ hFN)) (lw_V q2167 q765 q766 q99 q767) (np := 0) (by decide +kernel) rfl (hqm _ hFN).rcv ⟨Nat.le_of_ble_eq_true rfl, Nat.le_of_ble_eq_true rfl⟩ (Nat.le_of_ble_eq_true rfl) rfl (by decide) (by decide) (rS ?_) nI'
    refine x_icmp_ge (tgt := 30) dX2_word_7 (by decide) (fun _ => ?_) (fun h_ => absurd ((nI_leI (by omega) (by omega)).mpr (Nat.le_refl _)) h_)
    refine x_iconst (v := nI 1) dX2_word_30 (by decide) ?_
    exact x_zret dX2_word_31 rfl (rfl) (⟨_, rfl, by rw [he]; rfl, v, hN, hFN, by rw [he]; exact hv⟩)
  | succ d ih =>
    intro i p2 τ v hi hp2 hN hFN hv he
    obtain ⟨c, hc⟩ : ∃ c, W[i]? = some c := ⟨_, List.getElem?_eq_getElem (by omega)⟩
    have hc128 : c < 128 := hq.1.2 c (List.mem_of_getElem? hc)
    have hd : W.drop i = c :: W.drop (i + 1) := by
      obtain ⟨h, rfl⟩ := List.getElem?_eq_some_iff.mp hc
      rw [List.drop_eq_getElem_cons h]
    rw [hd] at he
    have hT2 : TX (mS M 15 v) t := MT.s15.tx hT
    refine x_iload_n dX2_word_2 2 rfl rfl ?_
    refine x_aload_n dX2_word_3 1 rfl rfl ?_
    refine x_callV dX2_word_4 (con_J11_length (hqm _ hFN)) (lw_V q2167 q765 q766 q99 q767) (np := 0) (by decide +kernel) rfl (hqm _ hFN).rcv ⟨Nat.le_of_ble_eq_true rfl, Nat.le_of_ble_eq_true rfl⟩ (Nat.le_of_ble_eq_true rfl) rfl (by decide) (by decide) (rS ?_) nI'
    refine x_icmp_ge (tgt := 30) dX2_word_7 (by decide) (fun h_ => absurd h_ (fun h => absurd (nLe (by omega) (by omega) h) (by omega))) (fun _ => ?_)
    refine x_aload_n dX2_word_10 0 rfl rfl ?_
    refine x_aload_n dX2_word_11 1 rfl rfl ?_
    refine x_iload_n dX2_word_12 2 rfl rfl ?_
    refine x_callV dX2_word_13 (con_J11_charAt (hqm _ hFN) hc) (lw_V q2168 q1579 q1580 q99 q1581) (np := 1) (by decide +kernel) rfl (hqm _ hFN).rcv ⟨Nat.le_of_ble_eq_true rfl, Nat.le_of_ble_eq_true rfl⟩ (Nat.le_of_ble_eq_true rfl) rfl (by decide) (by decide) (rS ?_) nI'
    refine x_callV dX2_word_16 (con_X2_skips hN hT2 (p := p2) hv hp2 (c := c) (by omega)) (lw_V q2169 q2171 qs76 q101 q2172) (np := 1) (by decide +kernel) rfl (rcv_of vC_2 hN.1) ⟨Nat.le_of_ble_eq_true rfl, Nat.le_of_ble_eq_true rfl⟩ (Nat.le_of_ble_eq_true rfl) rfl (by decide) (by decide) (rI fun z σ4 h1 => ?_) nI'
    refine x_if_ne (tgt := 24) dX2_word_19 (by decide) (fun c1 => ?_) (fun c1 => ?_)
    · have hcp : t[p2]? = some c := by
        by_cases e : t[p2]? = some c
        · exact e
        · have h1 := ite_gn e h1; rw [h1.1] at c1; exact absurd rfl c1
      have h1 := ite_gy hcp h1
      have he2 : pWord t W p = pWord t (W.drop (i + 1)) (p2 + 1) := he.trans (pWord_y hcp)
      refine x_iinc (i := 2) (q := 2) (v := nI (i + 1)) (L' := [(2, .int (nI (i + 1))), (0, .ref a), (1, .ref q)]) dX2_word_24 rfl (nI_1 _) (by decide) rfl ?_
      refine x_goto (tgt := 2) dX2_word_27 (by decide) ?_
      refine x_locs (L' := [(0, .ref a), (1, .ref q), (2, .int (nI (i + 1)))]) [1, 2, 0] rfl ?_
      exact ih (i + 1) (p2 + 1) _ (nI (p2 + 1)) (by omega) (get_lt hcp) (by have := h1.2.1; rw [mS_mS] at this; exact this) (hFN.tr h1.2.2) rfl he2
    · have hcp : ¬ t[p2]? = some c := by
        intro e
        have h1 := ite_gy e h1; rw [h1.1] at c1; exact absurd c1 (by decide)
      have h1 := ite_gn hcp h1
      obtain ⟨rfl, rfl⟩ := h1
      have he2 : pWord t W p = (false, p2) := he.trans (pWord_n hcp)
      refine x_iconst (v := nI 0) dX2_word_22 (by decide) ?_
      exact x_zret dX2_word_23 rfl (rfl) (⟨_, rfl, by rw [he2]; rfl, v, hN, hFN, by rw [he2]; exact hv⟩)
set_option maxHeartbeats 4000000 in
set_option maxRecDepth 100000 in
theorem con_X2_figures {l : Launch} {G : YG} {σ : AH} {a : Nat} {ad : Nat → Nat} {M : MS} {t : List Nat} {p pl k : Nat} (hM : MAt σ a ad M) (hT : TX M t) (h15 : M.2 15 = nI p) (hp : p ≤ t.length) (hpl : pl < 93) (hk : k < 10) : Con l yX2_figures cX2_figures 4 (some FieldType.boolean) G 2 0 0 [.ref a, .int (nI pl), .int (nI (k + 1))] σ (PI fun z τ => if isDg t[p]? = true then z = 1 ∧ ∃ N, MAt τ a ad N ∧ MF a ad σ τ ∧ MT M N ∧ N.2 17 = M.2 17 ∧ N.2 15 = nI (pNum t (k + 1) p 0).1 ∧ N.1 16 pl = nI (pNum t (k + 1) p 0).2 ∧ ∀ i, i ≠ pl → N.1 16 i = M.1 16 i else z = 0 ∧ τ = σ) := by
  refine con_of (by decide) (Nat.le_of_ble_eq_true rfl) ?_
  refine x_locs (L' := [(0, .ref a), (1, .int (nI pl)), (2, .int (nI (k + 1)))]) [0, 1, 2] rfl ?_
  have hl := hT.1
  refine x_aload_n dX2_figures_0 0 rfl rfl ?_
  refine x_callV dX2_figures_1 (con_X2_here hM hT h15 hp) (lw_V q2158 q2160 qs74 q101 q2161) (np := 0) (by decide +kernel) rfl (rcv_of vC_2 hM.1) ⟨Nat.le_of_ble_eq_true rfl, Nat.le_of_ble_eq_true rfl⟩ (Nat.le_of_ble_eq_true rfl) rfl (by decide) (by decide) (rS ?_) nI'
  refine x_bipush (v := nI 48) dX2_figures_4 (by decide) ?_
  refine x_bipush (v := nI 57) dX2_figures_6 (by decide) ?_
  refine x_callS dX2_figures_8 (con_X2_in (v := hereV t p) (lo := nI 48) (hi := nI 57)) (lw_S q1963 q1964 q101 q1965) (np := 3) (by decide +kernel) rfl ⟨Nat.le_of_ble_eq_true rfl, Nat.le_of_ble_eq_true rfl⟩ (Nat.le_of_ble_eq_true rfl) rfl (by decide) (by decide) (rS ?_) nI'
  refine x_top (x' := bI (isDg t[p]?)) (by rw [hereV_dg hT]) ?_
  refine x_if_ne (tgt := 16) dX2_figures_11 (by decide) (fun c1 => ?_) (fun c1 => ?_)
  · have c1 := bI_1 c1
    refine x_aload_n dX2_figures_16 0 rfl rfl ?_
    refine x_get dX2_figures_17 vC_2 in_X2 hM.1 16 (by decide) q1892 rfl ?_
    refine x_iload_n dX2_figures_20 1 rfl rfl ?_
    refine x_iconst (v := nI 0) dX2_figures_21 (by decide) ?_
    refine x_iast (N := 93) (j := pl) (w := nI 0) dX2_figures_22 (hM.2.1 16 rfl) rfl hpl (by decide) (fun σ8 g8 f8 => ?_)
    obtain ⟨hA8, hF8⟩ := hM.arr (k := 16) rfl g8 f8
    refine x_iconst (v := nI 0) dX2_figures_23 (by decide) ?_
    refine x_istore_n (i := 3) (L' := [(3, .int (nI 0)), (0, .ref a), (1, .int (nI pl)), (2, .int (nI (k + 1)))]) dX2_figures_24 rfl (by decide) rfl ?_
    refine x_locs (L' := [(0, .ref a), (1, .int (nI pl)), (2, .int (nI (k + 1))), (3, .int (nI 0))]) [1, 2, 3, 0] rfl ?_
    suffices loop : ∀ (d i p2 v : Nat) (τ : AH) (N : MS), i + d = k + 1 → p2 ≤ t.length → MAt τ a ad N → MF a ad σ τ → MT M N → N.2 17 = M.2 17 → N.2 15 = nI p2 → N.1 16 pl = nI v → (∀ j, j ≠ pl → N.1 16 j = M.1 16 j) → pNum t (k + 1) p 0 = pNum t d p2 v → X l yX2_figures cX2_figures 4 (some FieldType.boolean) [] G (yroom 2 0 0) (yEnd G (yroom 2 0 0) (PI fun z τ => if isDg t[p]? = true then z = 1 ∧ ∃ N, MAt τ a ad N ∧ MF a ad σ τ ∧ MT M N ∧ N.2 17 = M.2 17 ∧ N.2 15 = nI (pNum t (k + 1) p 0).1 ∧ N.1 16 pl = nI (pNum t (k + 1) p 0).2 ∧ ∀ i, i ≠ pl → N.1 16 i = M.1 16 i else z = 0 ∧ τ = σ)) 25 [(0, .ref a), (1, .int (nI pl)), (2, .int (nI (k + 1))), (3, .int (nI i))] [] τ 0 0 from loop (k + 1) 0 p 0 _ _ (Nat.zero_add _) hp hA8 hF8 MT.a16 rfl h15 (pk_us (f := M.1 16)) (fun j hj => pk_un (f := M.1 16) hj) rfl
    intro d
    induction d with
    | zero =>
      intro i p2 v τ N hi hp2 hN hFN hT2 h17 hs hv hoth he
      have hin : i = k + 1 := by omega
      subst hin
      have he : pNum t (k + 1) p 0 = (p2, v) := he
      refine x_iload_n dX2_figures_25 3 rfl rfl ?_
      refine x_iload_n dX2_figures_26 2 rfl rfl ?_
      refine x_icmp_ge (tgt := 83) dX2_figures_27 (by decide) (fun _ => ?_) (fun h_ => absurd ((nI_leI (by omega) (by omega)).mpr (Nat.le_refl _)) h_)
      refine x_iconst (v := nI 1) dX2_figures_83 (by decide) ?_
      exact x_zret dX2_figures_84 rfl (rfl) (⟨_, rfl, ite_y c1 ⟨rfl, N, hN, hFN, hT2, h17, by rw [he]; exact hs, by rw [he]; exact hv, hoth⟩⟩)
    | succ d ih =>
      intro i p2 v τ N hi hp2 hN hFN hT2 h17 hs hv hoth he
      have hTN : TX N t := hT2.tx hT
      refine x_iload_n dX2_figures_25 3 rfl rfl ?_
      refine x_iload_n dX2_figures_26 2 rfl rfl ?_
      refine x_icmp_ge (tgt := 83) dX2_figures_27 (by decide) (fun h_ => absurd h_ (fun h => absurd (nLe (by omega) (by omega) h) (by omega))) (fun _ => ?_)
      refine x_aload_n dX2_figures_30 0 rfl rfl ?_
      refine x_callV dX2_figures_31 (con_X2_here hN hTN hs hp2) (lw_V q2158 q2160 qs74 q101 q2161) (np := 0) (by decide +kernel) rfl (rcv_of vC_2 hN.1) ⟨Nat.le_of_ble_eq_true rfl, Nat.le_of_ble_eq_true rfl⟩ (Nat.le_of_ble_eq_true rfl) rfl (by decide) (by decide) (rS ?_) nI'
      refine x_bipush (v := nI 48) dX2_figures_34 (by decide) ?_
      refine x_bipush (v := nI 57) dX2_figures_36 (by decide) ?_
      refine x_callS dX2_figures_38 (con_X2_in (v := hereV t p2) (lo := nI 48) (hi := nI 57)) (lw_S q1963 q1964 q101 q1965) (np := 3) (by decide +kernel) rfl ⟨Nat.le_of_ble_eq_true rfl, Nat.le_of_ble_eq_true rfl⟩ (Nat.le_of_ble_eq_true rfl) rfl (by decide) (by decide) (rS ?_) nI'
      refine x_top (x' := bI (isDg t[p2]?)) (by rw [hereV_dg hTN]) ?_
      refine x_if_eq (tgt := 83) dX2_figures_41 (by decide) (fun c2 => ?_) (fun c2 => ?_)
      · have c2 := bI_0 c2
        have he : pNum t (k + 1) p 0 = (p2, v) := he.trans (pNum_n c2)
        refine x_iconst (v := nI 1) dX2_figures_83 (by decide) ?_
        exact x_zret dX2_figures_84 rfl (rfl) (⟨_, rfl, ite_y c1 ⟨rfl, N, hN, hFN, hT2, h17, by rw [he]; exact hs, by rw [he]; exact hv, hoth⟩⟩)
      · have c2 := bI_1 c2
        obtain ⟨c, hc, hc1, hc2, hc3⟩ := isDg_get c2
        have he : pNum t (k + 1) p 0 = pNum t d (p2 + 1) (10 * v + (c - 48)) := he.trans (pNum_y c2 hc3)
        refine x_aload_n dX2_figures_44 0 rfl rfl ?_
        refine x_get dX2_figures_45 vC_2 in_X2 hN.1 16 (by decide) q1892 rfl ?_
        refine x_iload_n dX2_figures_48 1 rfl rfl ?_
        refine x_bipush (v := nI 10) dX2_figures_49 (by decide) ?_
        refine x_aload_n dX2_figures_51 0 rfl rfl ?_
        refine x_get dX2_figures_52 vC_2 in_X2 hN.1 16 (by decide) q1892 rfl ?_
        refine x_iload_n dX2_figures_55 1 rfl rfl ?_
        refine x_iald (N := 93) (j := pl) (v := nI v) dX2_figures_56 (hN.2.1 16 rfl) (rfl) (hpl) (by decide) (hv) ?_
        refine x_imul dX2_figures_57 ?_
        refine x_top (x' := nI (10 * v)) (pk_mul _ _) ?_
        refine x_aload_n dX2_figures_58 0 rfl rfl ?_
        refine x_callV dX2_figures_59 (con_X2_here hN hTN hs hp2) (lw_V q2158 q2160 qs74 q101 q2161) (np := 0) (by decide +kernel) rfl (rcv_of vC_2 hN.1) ⟨Nat.le_of_ble_eq_true rfl, Nat.le_of_ble_eq_true rfl⟩ (Nat.le_of_ble_eq_true rfl) rfl (by decide) (by decide) (rS ?_) nI'
        refine x_top (x' := nI c) (hereV_s hc) ?_
        refine x_iadd dX2_figures_62 ?_
        refine x_top (x' := nI (10 * v + c)) (nI_add _ _) ?_
        refine x_bipush (v := nI 48) dX2_figures_63 (by decide) ?_
        refine x_isub dX2_figures_65 ?_
        refine x_top (x' := nI (10 * v + (c - 48))) (by rw [nI_sub (by omega)]; congr 1; omega) ?_
        refine x_iast (N := 93) (j := pl) (w := nI (10 * v + (c - 48))) dX2_figures_66 (hN.2.1 16 rfl) rfl hpl (by decide) (fun σ7 g7 f7 => ?_)
        obtain ⟨hA7, hF7⟩ := hN.arr (k := 16) rfl g7 f7
        refine x_aload_n dX2_figures_67 0 rfl rfl ?_
        refine x_dup dX2_figures_68 rfl ?_
        refine x_get dX2_figures_69 vC_2 in_X2 hA7.1 15 (by decide) q1891 rfl ?_
        refine x_top (x' := nI p2) (hs) ?_
        refine x_iconst (v := nI 1) dX2_figures_72 (by decide) ?_
        refine x_iadd dX2_figures_73 ?_
        refine x_top (x' := nI (p2 + 1)) (nI_add _ _) ?_
        refine x_put (fs' := mFs ad (mS (mA N 16 (upd (N.1 16) pl (nI (10 * v + (c - 48))))) 15 (nI (p2 + 1)))) dX2_figures_74 vC_2 in_X2 tyX2_ok nmX2 hA7.1 15 (by decide) q1891 rfl rfl (rfl) (rfl) (Nat.le_of_ble_eq_true rfl) rfl (fun σ6 h7 h8 => ?_)
        obtain ⟨hAM9, hBM9⟩ := hA7.fld (k := 15) (v := nI (p2 + 1)) h7 h8
        refine x_iinc (i := 3) (q := 3) (v := nI (i + 1)) (L' := [(3, .int (nI (i + 1))), (0, .ref a), (1, .int (nI pl)), (2, .int (nI (k + 1)))]) dX2_figures_77 rfl (nI_1 _) (by decide) rfl ?_
        refine x_goto (tgt := 25) dX2_figures_80 (by decide) ?_
        refine x_locs (L' := [(0, .ref a), (1, .int (nI pl)), (2, .int (nI (k + 1))), (3, .int (nI (i + 1)))]) [1, 2, 3, 0] rfl ?_
        exact ih (i + 1) (p2 + 1) (10 * v + (c - 48)) _ _ (by omega) (get_lt hc) hAM9 (hFN.tr (MF.tr hF7 hBM9)) ((hT2.tr MT.a16).tr MT.s15) h17 rfl (pk_us (f := N.1 16)) (fun j hj => (pk_un (f := N.1 16) hj).trans (hoth j hj)) he
  · have c1 := bI_0 c1
    refine x_iconst (v := nI 0) dX2_figures_14 (by decide) ?_
    exact x_zret dX2_figures_15 rfl (rfl) (⟨_, rfl, ite_n (by rw [c1]; exact fun z => by cases z) ⟨rfl, rfl⟩⟩)
def CmdAt (T : Nat → Int32) (k : Nat) (x : Cmd) : Prop := (x.1 = 109 ∨ x.1 = 46 ∨ x.1 = 115 ∨ x.1 = 120 ∨ x.1 = 45) ∧ T (3 * k) = nI x.1 ∧ (x.1 ≠ 109 → T (3 * k + 1) = nI x.2.1) ∧ (x.1 ≠ 109 → x.1 ≠ 46 → T (3 * k + 2) = nI x.2.2)
theorem CmdAt.of {T T' : Nat → Int32} {k : Nat} {x : Cmd} (h : CmdAt T k x) (he : ∀ i, i < 3 * k + 3 → T' i = T i) : CmdAt T' k x := ⟨h.1, (he _ (by omega)).trans h.2.1, fun a => (he _ (by omega)).trans (h.2.2.1 a), fun a b => (he _ (by omega)).trans (h.2.2.2 a b)⟩
theorem m109 {M : MS} {t : List Nat} {k : Nat} (h : M.2 17 = nI k) : nI 3 * M.2 17 = nI (3 * k) := by rw [h, pk_mul]
theorem MF.str {a : Nat} {ad : Nat → Nat} {σ τ : AH} {G : YG} (h : MF a ad σ τ) {i : Nat} {t : List Nat} (hk : BytK i t) (h0 : okCh t) : StrAt G τ (gc G i) t := ⟨h0, Or.inl ⟨i, rfl, hk⟩⟩
theorem bytK_maid : BytK 7 maidW := ⟨by decide, rfl, fun j x h => by
  match j, h with
  | 0, h => cases h; rfl
  | 1, h => cases h; rfl
  | 2, h => cases h; rfl
  | 3, h => cases h; rfl⟩
theorem okCh_maid : okCh maidW := ⟨by decide, by decide⟩
set_option maxHeartbeats 4000000 in
set_option maxRecDepth 100000 in
theorem con_X2_orderHere {l : Launch} {G : YG} {σ : AH} {a : Nat} {ad : Nat → Nat} {M : MS} {t : List Nat} {p k : Nat} (hM : MAt σ a ad M) (hT : TX M t) (h15 : M.2 15 = nI p) (hp : p ≤ t.length) (h17 : M.2 17 = nI k) (h3 : 3 * k ≤ p) : Con l yX2_orderHere cX2_orderHere 2 (some FieldType.boolean) G 5 0 0 [.ref a] σ (PI fun z τ => z = bI (pOrd t p).1 ∧ ∃ N, MAt τ a ad N ∧ MF a ad σ τ ∧ MT M N ∧ N.2 17 = M.2 17 ∧ N.2 15 = nI (pOrd t p).2.1 ∧ (∀ i, i < 3 * k → N.1 16 i = M.1 16 i) ∧ ((pOrd t p).1 = true → CmdAt (N.1 16) k (pOrd t p).2.2)) := by
  refine con_of (by decide) (Nat.le_of_ble_eq_true rfl) ?_
  refine x_locs (L' := [(0, .ref a)]) [0] rfl ?_
  have hl := hT.1
  refine x_iconst (v := nI 3) dX2_orderHere_0 (by decide) ?_
  refine x_aload_n dX2_orderHere_1 0 rfl rfl ?_
  refine x_get dX2_orderHere_2 vC_2 in_X2 hM.1 17 (by decide) q1893 rfl ?_
  refine x_top (x' := nI k) (h17) ?_
  refine x_imul dX2_orderHere_5 ?_
  refine x_top (x' := nI (3 * k)) (pk_mul _ _) ?_
  refine x_istore_n (i := 1) (L' := [(1, .int (nI (3 * k))), (0, .ref a)]) dX2_orderHere_6 rfl (by decide) rfl ?_
  refine x_aload_n dX2_orderHere_7 1 rfl rfl ?_
  refine x_get dX2_orderHere_8 vC_2 in_X2 hM.1 16 (by decide) q1892 rfl ?_
  refine x_iload_n dX2_orderHere_11 0 rfl rfl ?_
  refine x_bipush (v := nI 109) dX2_orderHere_12 (by decide) ?_
  refine x_iast (N := 93) (j := 3 * k) (w := nI 109) dX2_orderHere_14 (hM.2.1 16 rfl) rfl (by omega) (by decide) (fun σ8 g8 f8 => ?_)
  obtain ⟨hA8, hF8⟩ := hM.arr (k := 16) rfl g8 f8
  have hT8 : TX (mA M 16 (upd (M.1 16) (3 * k) (nI 109))) t := MT.a16.tx hT
  refine x_aload_n dX2_orderHere_15 1 rfl rfl ?_
  refine x_callV dX2_orderHere_16 (con_X2_here hA8 hT8 h15 hp) (lw_V q2158 q2160 qs74 q101 q2161) (np := 0) (by decide +kernel) rfl (rcv_of vC_2 hA8.1) ⟨Nat.le_of_ble_eq_true rfl, Nat.le_of_ble_eq_true rfl⟩ (Nat.le_of_ble_eq_true rfl) rfl (by decide) (by decide) (rS ?_) nI'
  refine x_bipush (v := nI 109) dX2_orderHere_19 (by decide) ?_
  refine x_icmp_ne (tgt := 31) dX2_orderHere_21 (by decide) (fun c1 => ?_) (fun c1 => ?_)
  · have c1 : ¬ t[p]? = some 109 := fun z => c1 ((hereV_eq hT (by decide)).mpr z)
    refine x_aload_n dX2_orderHere_31 1 rfl rfl ?_
    refine x_iload_n dX2_orderHere_32 0 rfl rfl ?_
    refine x_iconst (v := nI 1) dX2_orderHere_33 (by decide) ?_
    refine x_iadd dX2_orderHere_34 ?_
    refine x_top (x' := nI (3 * k + 1)) (nI_add _ _) ?_
    refine x_iconst (v := nI 2) dX2_orderHere_35 (by decide) ?_
    refine x_callV dX2_orderHere_36 (con_X2_figures hA8 hT8 h15 hp (pl := 3 * k + 1) (k := 1) (by omega) (by decide)) (lw_V q2173 q2175 qs77 q101 q2176) (np := 2) (by decide +kernel) rfl (rcv_of vC_2 hA8.1) ⟨Nat.le_of_ble_eq_true rfl, Nat.le_of_ble_eq_true rfl⟩ (Nat.le_of_ble_eq_true rfl) rfl (by decide) (by decide) (rI fun z σ2 h1 => ?_) nI'
    refine x_if_ne (tgt := 44) dX2_orderHere_39 (by decide) (fun c2 => ?_) (fun c2 => ?_)
    · have hdg : isDg t[p]? = true := by
        cases h : isDg t[p]? with
        | true => rfl
        | false => have h1 := ite_gn (by rw [h]; exact fun z => by cases z) h1; rw [h1.1] at c2; exact absurd rfl c2
      have h1 := ite_gy hdg h1
      obtain ⟨-, N, hN, hFN, hTN, hN17, hN15, hNv, hNo⟩ := h1
      have ho : pOrd t p = pTail t (pNum t 2 p 0).1 (pNum t 2 p 0).2 := by unfold pOrd; rw [if_neg c1, if_pos hdg]
      have hp1 := (pNum_le (t := t) 2 p 0 hp).2
      obtain ⟨p1, hp1e⟩ : ∃ p1, p1 = (pNum t 2 p 0).1 := ⟨_, rfl⟩
      obtain ⟨v, hve⟩ : ∃ v, v = (pNum t 2 p 0).2 := ⟨_, rfl⟩
      have hNv : N.1 16 (3 * k + 1) = nI v := by rw [hve]; exact hNv
      have hN15 : N.2 15 = nI p1 := by rw [hp1e]; exact hN15
      rw [← hp1e, ← hve] at ho
      rw [← hp1e] at hp1
      have hTXN : TX N t := hTN.tx hT8
      refine x_aload_n dX2_orderHere_44 1 rfl rfl ?_
      refine x_get dX2_orderHere_45 vC_2 in_X2 hN.1 16 (by decide) q1892 rfl ?_
      refine x_iload_n dX2_orderHere_48 0 rfl rfl ?_
      refine x_aload_n dX2_orderHere_49 1 rfl rfl ?_
      refine x_callV dX2_orderHere_50 (con_X2_here hN hTXN hN15 hp1) (lw_V q2158 q2160 qs74 q101 q2161) (np := 0) (by decide +kernel) rfl (rcv_of vC_2 hN.1) ⟨Nat.le_of_ble_eq_true rfl, Nat.le_of_ble_eq_true rfl⟩ (Nat.le_of_ble_eq_true rfl) rfl (by decide) (by decide) (rS ?_) nI'
      refine x_iast (N := 93) (j := 3 * k) (w := hereV t p1) dX2_orderHere_53 (hN.2.1 16 rfl) rfl (by omega) (by decide) (fun σ7 g7 f7 => ?_)
      obtain ⟨hA7, hF7⟩ := hN.arr (k := 16) rfl g7 f7
      obtain ⟨K, hKd⟩ : ∃ K, K = mA N 16 (upd (N.1 16) (3 * k) (hereV t p1)) := ⟨_, rfl⟩
      rw [← hKd] at hA7
      have hTK : MT M K := by rw [hKd]; exact (MT.a16.tr hTN).tr MT.a16
      have hTXK : TX K t := hTK.tx hT
      have hK15 : K.2 15 = nI p1 := by rw [hKd]; exact hN15
      have hK17 : K.2 17 = M.2 17 := by rw [hKd]; exact hN17
      have hK0 : K.1 16 (3 * k) = hereV t p1 := by rw [hKd]; exact pk_us (f := N.1 16)
      have hK1 : K.1 16 (3 * k + 1) = nI v := by rw [hKd]; exact (pk_un (f := N.1 16) (by omega)).trans hNv
      have hKo : ∀ i, i < 3 * k → K.1 16 i = M.1 16 i := fun i hi => by rw [hKd]; exact (pk_un (f := N.1 16) (by omega)).trans ((hNo i (by omega)).trans (pk_un (f := M.1 16) (by omega)))
      have hFK : MF a ad σ σ7 := (hF8.tr hFN).tr hF7
      have bad : ∀ q, pTail t p1 v = (false, q, (0, 0, 0)) → ∀ (τ : AH) (N' : MS), MAt τ a ad N' → MF a ad σ τ → MT M N' → N'.2 17 = M.2 17 → N'.2 15 = nI q → (∀ i, i < 3 * k → N'.1 16 i = M.1 16 i) → (PI fun z τ => z = bI (pOrd t p).1 ∧ ∃ N, MAt τ a ad N ∧ MF a ad σ τ ∧ MT M N ∧ N.2 17 = M.2 17 ∧ N.2 15 = nI (pOrd t p).2.1 ∧ (∀ i, i < 3 * k → N.1 16 i = M.1 16 i) ∧ ((pOrd t p).1 = true → CmdAt (N.1 16) k (pOrd t p).2.2)) (.inl (some (.int (nI 0)))) τ := fun q hq τ N' b1 b2 b3 b4 b5 b6 => ⟨_, rfl, by rw [ho, hq]; rfl, N', b1, b2, b3, b4, by rw [ho, hq]; exact b5, b6, fun z => by rw [ho, hq] at z; cases z⟩
      have after : ∀ (c : Nat) (τ : AH), t[p1]? = some c → (c = 115 ∨ c = 120 ∨ c = 45) → MAt τ a ad (mS K 15 (nI (p1 + 1))) → MF a ad σ τ → X l yX2_orderHere cX2_orderHere 2 (some FieldType.boolean) [] G (yroom 5 0 0) (yEnd G (yroom 5 0 0) (PI fun z τ => z = bI (pOrd t p).1 ∧ ∃ N, MAt τ a ad N ∧ MF a ad σ τ ∧ MT M N ∧ N.2 17 = M.2 17 ∧ N.2 15 = nI (pOrd t p).2.1 ∧ (∀ i, i < 3 * k → N.1 16 i = M.1 16 i) ∧ ((pOrd t p).1 = true → CmdAt (N.1 16) k (pOrd t p).2.2))) 92 [(0, .ref a), (1, .int (nI (3 * k)))] [] τ 0 0 := by
        intro c τ hc hcs hAτ hFτ
        have h46 : ¬ t[p1]? = some 46 := fun z => by rw [z] at hc; cases hc; omega
        have hor : t[p1]? = some 115 ∨ t[p1]? = some 120 ∨ t[p1]? = some 45 := by rcases hcs with e | e | e <;> (subst e; rw [hc]; simp)
        have hlt := get_lt hc
        have hTX9 : TX (mS K 15 (nI (p1 + 1))) t := MT.s15.tx hTXK
        have hgd : t.getD p1 0 = c := by rw [List.getD_eq_getElem?_getD, hc]; rfl
        refine x_aload_n dX2_orderHere_92 0 rfl rfl ?_
        refine x_iload_n dX2_orderHere_93 1 rfl rfl ?_
        refine x_iconst (v := nI 2) dX2_orderHere_94 (by decide) ?_
        refine x_iadd dX2_orderHere_95 ?_
        refine x_top (x' := nI (3 * k + 2)) (nI_add _ _) ?_
        refine x_iconst (v := nI 1) dX2_orderHere_96 (by decide) ?_
        refine x_callV dX2_orderHere_97 (con_X2_figures hAτ hTX9 (p := p1 + 1) rfl (by omega) (pl := 3 * k + 2) (k := 0) (by omega) (by decide)) (lw_V q2173 q2175 qs77 q101 q2176) (np := 2) (by decide +kernel) rfl (rcv_of vC_2 hAτ.1) ⟨Nat.le_of_ble_eq_true rfl, Nat.le_of_ble_eq_true rfl⟩ (Nat.le_of_ble_eq_true rfl) rfl (by decide) (by decide) (rI fun z9 σ4 k9 => ?_) nI'
        refine x_if_eq (tgt := 107) dX2_orderHere_100 (by decide) (fun d9 => ?_) (fun d9 => ?_)
        · have hd2 : ¬ isDg t[p1 + 1]? = true := by
            intro e
            have k9 := ite_gy e k9; rw [k9.1] at d9; exact absurd d9 (by decide)
          have k9 := ite_gn hd2 k9
          obtain ⟨rfl, rfl⟩ := k9
          have hpt : pTail t p1 v = (false, p1 + 1, (0, 0, 0)) := by unfold pTail; rw [if_neg h46, if_pos hor, if_neg hd2]
          refine x_iconst (v := nI 0) dX2_orderHere_107 (by decide) ?_
          exact x_zret dX2_orderHere_108 rfl (rfl) (bad _ hpt _ _ hAτ hFτ (hTK.tr MT.s15) hK17 rfl hKo)
        · have hd2 : isDg t[p1 + 1]? = true := by
            cases h : isDg t[p1 + 1]? with
            | true => rfl
            | false => have k9 := ite_gn (by rw [h]; exact fun z => by cases z) k9; rw [k9.1] at d9; exact absurd rfl d9
          have k9 := ite_gy hd2 k9
          obtain ⟨-, J, hJ, hFJ, hTJ, hJ17, hJ15, hJv, hJo⟩ := k9
          have hpt : pTail t p1 v = (true, (pNum t 1 (p1 + 1) 0).1, (c, v, (pNum t 1 (p1 + 1) 0).2)) := by unfold pTail; rw [if_neg h46, if_pos hor, if_pos hd2, hgd]
          refine x_iconst (v := nI 1) dX2_orderHere_103 (by decide) ?_
          refine x_goto (tgt := 108) dX2_orderHere_104 (by decide) ?_
          exact x_zret dX2_orderHere_108 rfl (rfl) (⟨_, rfl, by rw [ho, hpt]; rfl, J, hJ, hFτ.tr hFJ, (hTK.tr MT.s15).tr hTJ, hJ17.trans hK17, by rw [ho, hpt]; exact hJ15, fun i hi => (hJo i (by omega)).trans (hKo i hi), fun _ => by rw [ho, hpt]; exact ⟨by show c = 109 ∨ c = 46 ∨ c = 115 ∨ c = 120 ∨ c = 45; omega, (hJo _ (by omega)).trans (hK0.trans (hereV_s hc)), fun _ => (hJo _ (by omega)).trans hK1, fun _ _ => hJv⟩⟩)
      refine x_aload_n dX2_orderHere_54 1 rfl rfl ?_
      refine x_bipush (v := nI 46) dX2_orderHere_55 (by decide) ?_
      refine x_callV dX2_orderHere_57 (con_X2_skips hA7 hTXK (p := p1) hK15 (by omega) (c := 46) (by decide)) (lw_V q2169 q2171 qs76 q101 q2172) (np := 1) (by decide +kernel) rfl (rcv_of vC_2 hA7.1) ⟨Nat.le_of_ble_eq_true rfl, Nat.le_of_ble_eq_true rfl⟩ (Nat.le_of_ble_eq_true rfl) rfl (by decide) (by decide) (rI fun z1 σ5 k1 => ?_) nI'
      refine x_if_eq (tgt := 65) dX2_orderHere_60 (by decide) (fun d1 => ?_) (fun d1 => ?_)
      · have hdot : ¬ t[p1]? = some 46 := by
          intro e
          have k1 := ite_gy e k1; rw [k1.1] at d1; first | exact absurd rfl d1 | exact absurd d1 (by decide)
        have k1 := ite_gn hdot k1
        obtain ⟨rfl, rfl⟩ := k1
        refine x_aload_n dX2_orderHere_65 1 rfl rfl ?_
        refine x_bipush (v := nI 115) dX2_orderHere_66 (by decide) ?_
        refine x_callV dX2_orderHere_68 (con_X2_skips hA7 hTXK (p := p1) hK15 (by omega) (c := 115) (by decide)) (lw_V q2169 q2171 qs76 q101 q2172) (np := 1) (by decide +kernel) rfl (rcv_of vC_2 hA7.1) ⟨Nat.le_of_ble_eq_true rfl, Nat.le_of_ble_eq_true rfl⟩ (Nat.le_of_ble_eq_true rfl) rfl (by decide) (by decide) (rI fun z2 σ6 k2 => ?_) nI'
        refine x_if_ne (tgt := 92) dX2_orderHere_71 (by decide) (fun d2 => ?_) (fun d2 => ?_)
        · have hq2 : t[p1]? = some 115 := by
            by_cases e : t[p1]? = some 115
            · exact e
            · have k2 := ite_gn e k2; rw [k2.1] at d2; first | exact absurd rfl d2 | exact absurd d2 (by decide)
          have k2 := ite_gy hq2 k2
          refine x_locs (L' := [(0, .ref a), (1, .int (nI (3 * k)))]) [1, 0] rfl ?_
          exact after 115 _ hq2 (by decide) k2.2.1 (hFK.tr k2.2.2)
        · have hq2 : ¬ t[p1]? = some 115 := by
            intro e
            have k2 := ite_gy e k2; rw [k2.1] at d2; first | exact absurd rfl d2 | exact absurd d2 (by decide)
          have k2 := ite_gn hq2 k2
          obtain ⟨rfl, rfl⟩ := k2
          refine x_aload_n dX2_orderHere_74 1 rfl rfl ?_
          refine x_bipush (v := nI 120) dX2_orderHere_75 (by decide) ?_
          refine x_callV dX2_orderHere_77 (con_X2_skips hA7 hTXK (p := p1) hK15 (by omega) (c := 120) (by decide)) (lw_V q2169 q2171 qs76 q101 q2172) (np := 1) (by decide +kernel) rfl (rcv_of vC_2 hA7.1) ⟨Nat.le_of_ble_eq_true rfl, Nat.le_of_ble_eq_true rfl⟩ (Nat.le_of_ble_eq_true rfl) rfl (by decide) (by decide) (rI fun z3 σ7 k3 => ?_) nI'
          refine x_if_ne (tgt := 92) dX2_orderHere_80 (by decide) (fun d3 => ?_) (fun d3 => ?_)
          · have hq3 : t[p1]? = some 120 := by
              by_cases e : t[p1]? = some 120
              · exact e
              · have k3 := ite_gn e k3; rw [k3.1] at d3; first | exact absurd rfl d3 | exact absurd d3 (by decide)
            have k3 := ite_gy hq3 k3
            refine x_locs (L' := [(0, .ref a), (1, .int (nI (3 * k)))]) [1, 0] rfl ?_
            exact after 120 _ hq3 (by decide) k3.2.1 (hFK.tr k3.2.2)
          · have hq3 : ¬ t[p1]? = some 120 := by
              intro e
              have k3 := ite_gy e k3; rw [k3.1] at d3; first | exact absurd rfl d3 | exact absurd d3 (by decide)
            have k3 := ite_gn hq3 k3
            obtain ⟨rfl, rfl⟩ := k3
            refine x_aload_n dX2_orderHere_83 1 rfl rfl ?_
            refine x_bipush (v := nI 45) dX2_orderHere_84 (by decide) ?_
            refine x_callV dX2_orderHere_86 (con_X2_skips hA7 hTXK (p := p1) hK15 (by omega) (c := 45) (by decide)) (lw_V q2169 q2171 qs76 q101 q2172) (np := 1) (by decide +kernel) rfl (rcv_of vC_2 hA7.1) ⟨Nat.le_of_ble_eq_true rfl, Nat.le_of_ble_eq_true rfl⟩ (Nat.le_of_ble_eq_true rfl) rfl (by decide) (by decide) (rI fun z4 σ8 k4 => ?_) nI'
            refine x_if_eq (tgt := 107) dX2_orderHere_89 (by decide) (fun d4 => ?_) (fun d4 => ?_)
            · have hq4 : ¬ t[p1]? = some 45 := by
                intro e
                have k4 := ite_gy e k4; rw [k4.1] at d4; first | exact absurd rfl d4 | exact absurd d4 (by decide)
              have k4 := ite_gn hq4 k4
              obtain ⟨rfl, rfl⟩ := k4
              have hpt : pTail t p1 v = (false, p1, (0, 0, 0)) := by unfold pTail; rw [if_neg hdot, if_neg (fun z => z.elim hq2 (fun z => z.elim hq3 hq4))]
              refine x_iconst (v := nI 0) dX2_orderHere_107 (by decide) ?_
              exact x_zret dX2_orderHere_108 rfl (rfl) (bad _ hpt _ _ hA7 hFK hTK hK17 hK15 hKo)
            · have hq4 : t[p1]? = some 45 := by
                by_cases e : t[p1]? = some 45
                · exact e
                · have k4 := ite_gn e k4; rw [k4.1] at d4; first | exact absurd rfl d4 | exact absurd d4 (by decide)
              have k4 := ite_gy hq4 k4
              refine x_locs (L' := [(0, .ref a), (1, .int (nI (3 * k)))]) [1, 0] rfl ?_
              exact after 45 _ hq4 (by decide) k4.2.1 (hFK.tr k4.2.2)
      · have hdot : t[p1]? = some 46 := by
          by_cases e : t[p1]? = some 46
          · exact e
          · have k1 := ite_gn e k1; rw [k1.1] at d1; first | exact absurd rfl d1 | exact absurd d1 (by decide)
        have k1 := ite_gy hdot k1
        have hpt : pTail t p1 v = (true, p1 + 1, (46, v, 0)) := by unfold pTail; rw [if_pos hdot]
        refine x_iconst (v := nI 1) dX2_orderHere_63 (by decide) ?_
        exact x_zret dX2_orderHere_64 rfl (rfl) (⟨_, rfl, by rw [ho, hpt]; rfl, _, k1.2.1, hFK.tr k1.2.2, hTK.tr MT.s15, hK17, by rw [ho, hpt]; rfl, hKo, fun _ => by rw [ho, hpt]; exact ⟨Or.inr (Or.inl rfl), hK0.trans (hereV_s hdot), fun _ => hK1, fun _ z => absurd rfl z⟩⟩)
    · have hdg : ¬ isDg t[p]? = true := by
        intro e
        have h1 := ite_gy e h1; rw [h1.1] at c2; exact absurd c2 (by decide)
      have h1 := ite_gn hdg h1
      obtain ⟨rfl, rfl⟩ := h1
      have ho : pOrd t p = (false, p, (0, 0, 0)) := by unfold pOrd; rw [if_neg c1, if_neg hdg]
      refine x_iconst (v := nI 0) dX2_orderHere_42 (by decide) ?_
      exact x_zret dX2_orderHere_43 rfl (rfl) (⟨_, rfl, by rw [ho]; rfl, _, hA8, hF8, MT.a16, rfl, by rw [ho]; exact h15, fun i hi => pk_un (f := M.1 16) (by omega), fun z => by rw [ho] at z; cases z⟩)
  · have c1 := (hereV_eq hT (by decide)).mp c1
    have ho : pOrd t p = ((pWord t maidW p).1, (pWord t maidW p).2, (109, 0, 0)) := by unfold pOrd; rw [if_pos c1]
    refine x_aload_n dX2_orderHere_24 1 rfl rfl ?_
    refine x_ldcS (i := 7) dX2_orderHere_25 rfl ?_
    refine x_callV dX2_orderHere_27 (con_X2_word hA8 hT8 h15 hp (W := maidW) ⟨okCh_maid, Or.inl ⟨7, rfl, bytK_maid⟩⟩ (fun τ h => h.str bytK_maid okCh_maid) (by decide)) (lw_V q2163 q2165 qs75 q101 q2166) (np := 1) (by decide +kernel) rfl (rcv_of vC_2 hA8.1) ⟨Nat.le_of_ble_eq_true rfl, Nat.le_of_ble_eq_true rfl⟩ (Nat.le_of_ble_eq_true rfl) rfl (by decide) (by decide) (rI fun z σ9 h1 => ?_) nI'
    obtain ⟨rfl, v, hA7, hF7, hv⟩ := h1
    exact x_zret dX2_orderHere_30 rfl (bI_z _) (⟨_, rfl, by rw [ho], _, hA7, hF8.tr hF7, MT.a16.tr MT.s15, rfl, by rw [ho]; exact hv, fun i hi => pk_un (f := M.1 16) (by omega), fun _ => by rw [ho]; exact ⟨Or.inl rfl, pk_us (f := M.1 16), fun z => absurd rfl z, fun z => absurd rfl z⟩⟩)
