set_option maxRecDepth 100000
/-- only the line is written -/
def MLn (M N : MS) : Prop := (∀ i, i ≠ 12 → N.1 i = M.1 i) ∧ ∀ j, j ≠ 13 → N.2 j = M.2 j
theorem MLn.rf {M : MS} : MLn M M := ⟨fun _ _ => rfl, fun _ _ => rfl⟩
theorem MLn.tr {M N K : MS} (h1 : MLn M N) (h2 : MLn N K) : MLn M K := ⟨fun i h => (h2.1 i h).trans (h1.1 i h), fun j h => (h2.2 j h).trans (h1.2 j h)⟩
theorem MLn.s13 {M : MS} {v : Int32} : MLn M (mS M 13 v) := ⟨fun _ _ => rfl, fun _ h => if_neg h⟩
theorem MLn.gr {M N : MS} {S : AS} (h : MLn M N) (hG : GR (M.1 0) S) : GR (N.1 0) S := by rw [h.1 0 (by decide)]; exact hG
/-- the line is t now -/
def WL (a : Nat) (ad : Nat → Nat) (σ : AH) (M : MS) (t : List Nat) (τ : AH) : Prop := ∃ N, MAt τ a ad N ∧ MF a ad σ τ ∧ MLn M N ∧ LN N t
theorem WL.tr {a : Nat} {ad : Nat → Nat} {σ υ τ : AH} {M N : MS} {t : List Nat} (hF : MF a ad σ υ) (hL : MLn M N) (h : WL a ad υ N t τ) : WL a ad σ M t τ := by
  obtain ⟨K, h1, h2, h3, h4⟩ := h
  exact ⟨K, h1, hF.tr h2, hL.tr h3, h4⟩
theorem WL.rf {a : Nat} {ad : Nat → Nat} {σ : AH} {M : MS} {t : List Nat} (hM : MAt σ a ad M) (h : LN M t) : WL a ad σ M t σ := ⟨M, hM, MF.rf, MLn.rf, h⟩
theorem SR.ln {M N : MS} {z : Sys} {t : List Nat} (h : SR M z) (hL : MLn M N) (ht : LN N t) : SR N (z.1, z.2.1, z.2.2.1, t) := by
  obtain ⟨k1, k2, k3, k4, k5⟩ := h
  refine ⟨⟨hL.gr k1.1, k1.2.1.of (hL.2 6 (by decide)) (hL.1 1 (by decide)), (hL.2 8 (by decide)).trans k1.2.2.1, (hL.2 9 (by decide)).trans k1.2.2.2⟩, (hL.2 7 (by decide)).trans k2, ⟨(hL.2 5 (by decide)).trans k3.1, fun P hP => by rw [hL.1 2 (by decide)]; exact k3.2 P hP⟩, ⟨k4.1, (hL.2 11 (by decide)).trans k4.2.1, fun i c hc => by rw [hL.1 10 (by decide)]; exact k4.2.2 i c hc⟩, ht⟩
set_option maxHeartbeats 4000000 in
set_option maxRecDepth 100000 in
theorem con_X2_writes {l : Launch} {G : YG} {σ : AH} {a : Nat} {ad : Nat → Nat} {M : MS} {t : List Nat} {c : Nat} (hM : MAt σ a ad M) (hL : LN M t) (hl : t.length < 200) (hc : c < 128) : Con l yX2_writes cX2_writes 2 none G 0 0 0 [.ref a, .int (nI c)] σ (PV fun τ => WL a ad σ M (t ++ [c]) τ) := by
  refine con_of (by decide) (Nat.le_of_ble_eq_true rfl) ?_
  refine x_locs (L' := [(0, .ref a), (1, .int (nI c))]) [0, 1] rfl ?_
  refine x_aload_n dX2_writes_0 0 rfl rfl ?_
  refine x_get dX2_writes_1 vC_2 in_X2 hM.1 12 (by decide) q1888 rfl ?_
  refine x_aload_n dX2_writes_4 0 rfl rfl ?_
  refine x_get dX2_writes_5 vC_2 in_X2 hM.1 13 (by decide) q1889 rfl ?_
  refine x_top (x' := nI t.length) (hL.2.1) ?_
  refine x_iload_n dX2_writes_8 1 rfl rfl ?_
  refine x_i2c (v := nI c) dX2_writes_9 (i2c_lt hc) ?_
  refine x_cast (N := 200) (j := t.length) (w := nI c) dX2_writes_10 (hM.2.1 12 rfl) rfl hl (by decide) (nar_c hc) (fun σ8 g8 f8 => ?_)
  obtain ⟨hA8, hF8⟩ := hM.arr (k := 12) rfl g8 f8
  refine x_aload_n dX2_writes_11 0 rfl rfl ?_
  refine x_dup dX2_writes_12 rfl ?_
  refine x_get dX2_writes_13 vC_2 in_X2 hA8.1 13 (by decide) q1889 rfl ?_
  refine x_top (x' := nI t.length) (hL.2.1) ?_
  refine x_iconst (v := nI 1) dX2_writes_16 (by decide) ?_
  refine x_iadd dX2_writes_17 ?_
  refine x_top (x' := nI (t.length + 1)) (nI_add _ _) ?_
  refine x_put (fs' := mFs ad (mS (mA M 12 (upd (M.1 12) t.length (nI c))) 13 (nI (t.length + 1)))) dX2_writes_18 vC_2 in_X2 tyX2_ok nmX2 hA8.1 13 (by decide) q1889 rfl rfl (rfl) (rfl) (Nat.le_of_ble_eq_true rfl) rfl (fun σ1 h2 h3 => ?_)
  obtain ⟨hAM4, hBM4⟩ := hA8.fld (k := 13) (v := nI (t.length + 1)) h2 h3
  refine x_vret dX2_writes_21 rfl (⟨rfl, _, hAM4, (MF.tr hF8 hBM4), ⟨fun i hi => if_neg hi, fun j hj => if_neg hj⟩, by rw [List.length_append]; exact hl, by rw [List.length_append]; rfl, fun i x hx => ?_⟩)
  show upd (M.1 12) t.length (nI c) i = _
  rw [List.getElem?_append] at hx
  split at hx
  · rename_i hi
    rw [pk_un (by omega)]; exact hL.2.2 i x hx
  · rename_i hi
    have hil := (List.getElem?_eq_some_iff.mp hx).1
    have hie : i = t.length := by simp at hil; omega
    subst hie
    rw [Nat.sub_self] at hx
    cases hx
    exact pk_us
set_option maxHeartbeats 4000000 in
set_option maxRecDepth 100000 in
theorem con_X2_writesNumber {l : Launch} {G : YG} {σ : AH} {a : Nat} {ad : Nat → Nat} {M : MS} {t : List Nat} {n : Nat} (hM : MAt σ a ad M) (hL : LN M t) (hl : t.length < 198) (hn : n < 100) : Con l yX2_writesNumber cX2_writesNumber 2 none G 1 0 0 [.ref a, .int (nI n)] σ (PV fun τ => WL a ad σ M (t ++ numL n) τ) := by
  refine con_of (by decide) (Nat.le_of_ble_eq_true rfl) ?_
  refine x_locs (L' := [(0, .ref a), (1, .int (nI n))]) [0, 1] rfl ?_
  have tail : ∀ (t1 : List Nat) (τ : AH) (N : MS), t1.length < 199 → MAt τ a ad N → MF a ad σ τ → MLn M N → LN N t1 → t1 ++ [48 + n % 10] = t ++ numL n → X l yX2_writesNumber cX2_writesNumber 2 none [] G (yroom 1 0 0) (yEnd G (yroom 1 0 0) (PV fun τ => WL a ad σ M (t ++ numL n) τ)) 17 [(0, .ref a), (1, .int (nI n))] [] τ 0 0 := by
    intro t1 τ N hl1 hN hFN hMN hLN he
    refine x_aload_n dX2_writesNumber_17 0 rfl rfl ?_
    refine x_bipush (v := nI 48) dX2_writesNumber_18 (by decide) ?_
    refine x_iload_n dX2_writesNumber_20 1 rfl rfl ?_
    refine x_bipush (v := nI 10) dX2_writesNumber_21 (by decide) ?_
    refine x_irem dX2_writesNumber_23 (by decide) ?_
    refine x_top (x' := nI (n % 10)) (rem10 hn) ?_
    refine x_iadd dX2_writesNumber_24 ?_
    refine x_top (x' := nI (48 + (n % 10))) (nI_add _ _) ?_
    refine x_callV dX2_writesNumber_25 (con_X2_writes (t := t1) (c := (48 + n % 10)) hN hLN (by omega) (by omega)) (lw_V q2193 q2195 qs80 q101 q2196) (np := 1) (by decide +kernel) rfl (rcv_of vC_2 hN.1) ⟨Nat.le_of_ble_eq_true rfl, Nat.le_of_ble_eq_true rfl⟩ (Nat.le_of_ble_eq_true rfl) rfl (by decide) (by decide) (rV fun σ2 h1 => ?_) nV'
    obtain ⟨N4, hAN4, hFN4, hMN4, hLN4⟩ : WL a ad σ M (t1 ++ [48 + n % 10]) σ2 := WL.tr hFN hMN h1
    exact x_vret dX2_writesNumber_28 rfl (⟨rfl, by rw [← he]; exact ⟨_, hAN4, hFN4, hMN4, hLN4⟩⟩)
  refine x_iload_n dX2_writesNumber_0 1 rfl rfl ?_
  refine x_bipush (v := nI 9) dX2_writesNumber_1 (by decide) ?_
  refine x_icmp_le (tgt := 17) dX2_writesNumber_3 (by decide) (fun c1 => ?_) (fun c1 => ?_)
  · have c1 := nLe (by omega) (by omega) c1
    refine x_locs (L' := [(0, .ref a), (1, .int (nI n))]) [0, 1] rfl ?_
    exact tail t σ M (by omega) hM MF.rf MLn.rf hL (by unfold numL; rw [if_neg (by omega)]; rfl)
  · have c1 := nNle (by omega) (by omega) c1
    refine x_aload_n dX2_writesNumber_6 0 rfl rfl ?_
    refine x_bipush (v := nI 48) dX2_writesNumber_7 (by decide) ?_
    refine x_iload_n dX2_writesNumber_9 1 rfl rfl ?_
    refine x_bipush (v := nI 10) dX2_writesNumber_10 (by decide) ?_
    refine x_idiv dX2_writesNumber_12 (by decide) ?_
    refine x_top (x' := nI (n / 10)) (div10 hn) ?_
    refine x_iadd dX2_writesNumber_13 ?_
    refine x_top (x' := nI (48 + (n / 10))) (nI_add _ _) ?_
    refine x_callV dX2_writesNumber_14 (con_X2_writes (t := t) (c := (48 + n / 10)) hM hL (by omega) (by omega)) (lw_V q2193 q2195 qs80 q101 q2196) (np := 1) (by decide +kernel) rfl (rcv_of vC_2 hM.1) ⟨Nat.le_of_ble_eq_true rfl, Nat.le_of_ble_eq_true rfl⟩ (Nat.le_of_ble_eq_true rfl) rfl (by decide) (by decide) (rV fun σ6 h5 => ?_) nV'
    obtain ⟨N8, hAN8, hFN8, hMN8, hLN8⟩ : WL a ad σ M (t ++ [48 + n / 10]) σ6 := WL.tr MF.rf MLn.rf h5
    refine x_locs (L' := [(0, .ref a), (1, .int (nI n))]) [0, 1] rfl ?_
    exact tail _ _ _ (by rw [List.length_append]; show t.length + 1 < 199; omega) hAN8 hFN8 hMN8 hLN8 (by unfold numL; rw [if_pos (by omega)]; simp)
noncomputable def qTell (S : AS) (ln : List Nat) (u : Int32) : Int32 × List Nat := if isS u then (nI (tellL S (iN u)).length, tellL S (iN u)) else (-11, ln)
noncomputable def qTellM (S : AS) (ln : List Nat) (v : Int32) : Int32 × List Nat := if isT S v then (nI (tellML S (iN v)).length, tellML S (iN v)) else (-11, ln)
theorem holdL_s {S : AS} {s i : Nat} : holdL S s (i + 1) = holdL S s i ++ (if hw S i s = 0 then [] else (if cn (heldF S s) i = 0 then [] else [44]) ++ numL i ++ [sgL (hw S i s)]) := rfl
theorem waitL_s {S : AS} {s i : Nat} {w : Wi} (h : (qu S s)[i]? = some w) : waitL S s (i + 1) = waitL S s i ++ ([if i = 0 then 60 else 44] ++ numL w.1 ++ [sgL w.2.1]) := by
  show _ ++ _ = _
  rw [h]
theorem lockL_s {S : AS} {m i : Nat} : lockL S m (i + 1) = lockL S m i ++ (if hw S m i = 0 then [] else numL i ++ [sgL (hw S m i)]) := rfl
theorem sgL_lt {k : Nat} : sgL k < 128 := by unfold sgL; split <;> decide
set_option maxHeartbeats 4000000 in
set_option maxRecDepth 100000 in
theorem con_X2_tell {l : Launch} {G : YG} {σ : AH} {a : Nat} {ad : Nat → Nat} {M : MS} {S : AS} {ln : List Nat} {u : Int32} (hM : MAt σ a ad M) (hG : GR (M.1 0) S) (hI : IV S) (hL : LN M ln) : Con l yX2_tell cX2_tell 5 (some FieldType.int) G 2 0 0 [.ref a, .int u] σ (PI fun z τ => z = (qTell S ln u).1 ∧ WL a ad σ M (qTell S ln u).2 τ) := by
  refine con_of (by decide) (Nat.le_of_ble_eq_true rfl) ?_
  refine x_locs (L' := [(0, .ref a), (1, .int u)]) [0, 1] rfl ?_
  refine x_iload_n dX2_tell_0 1 rfl rfl ?_
  refine x_callS dX2_tell_1 (con_X2_isShelf (v := u)) (lw_S q1970 q1971 q101 q1972) (np := 1) (by decide +kernel) rfl ⟨Nat.le_of_ble_eq_true rfl, Nat.le_of_ble_eq_true rfl⟩ (Nat.le_of_ble_eq_true rfl) rfl (by decide) (by decide) (rS ?_) nI'
  refine x_if_ne (tgt := 10) dX2_tell_4 (by decide) (fun c1 => ?_) (fun c1 => ?_)
  · have c1 : isS u = true := bI_1 c1
    obtain ⟨s, hs, rfl, hun⟩ := isS_of c1
    have hC := hI.c
    have hl8 := hI.len hs
    have hco : qTell S ln (nI s) = (nI (tellL S s).length, tellL S s) := by unfold qTell; rw [c1, show iN (nI s) = s from hun]; rfl
    obtain ⟨base, hbase⟩ : ∃ base, base = numL s ++ [58] := ⟨_, rfl⟩
    have hbl : base.length ≤ 3 := by rw [hbase, List.length_append]; have := numL_len (n := s); show _ + 1 ≤ 3; omega
    have second : ∀ (d i : Nat) (f : Int32) (τ : AH) (N : MS), i + d = (qu S s).length → MAt τ a ad N → MF a ad σ τ → MLn M N → LN N (base ++ holdL S s (nC S) ++ waitL S s i) → X l yX2_tell cX2_tell 5 (some FieldType.int) [] G (yroom 2 0 0) (yEnd G (yroom 2 0 0) (PI fun z τ => z = (qTell S ln (nI s)).1 ∧ WL a ad σ M (qTell S ln (nI s)).2 τ)) 98 [(0, .ref a), (1, .int (nI s)), (2, .int f), (3, .int (nI i))] [] τ 0 0 := by
      intro d
      induction d with
      | zero =>
        intro i f τ N hi hN hFN hMN hLN
        have hin : i = (qu S s).length := by omega
        subst hin
        have hGN := hMN.gr hG
        have he : base ++ holdL S s (nC S) ++ waitL S s (qu S s).length = tellL S s := by rw [hbase]; rfl
        rw [he] at hLN
        refine x_iload_n dX2_tell_98 3 rfl rfl ?_
        refine x_aload_n dX2_tell_99 0 rfl rfl ?_
        refine x_iload_n dX2_tell_100 1 rfl rfl ?_
        refine x_iconst (v := nI 2) dX2_tell_101 (by decide) ?_
        refine x_callV dX2_tell_102 (con_X2_shelf hN (s := s) (w := 2) hs (by decide)) (lw_V q1989 q1991 qs49 q101 q1992) (np := 2) (by decide +kernel) rfl (rcv_of vC_2 hN.1) ⟨Nat.le_of_ble_eq_true rfl, Nat.le_of_ble_eq_true rfl⟩ (Nat.le_of_ble_eq_true rfl) rfl (by decide) (by decide) (rS ?_) nI'
        refine x_top (x' := nI (qu S s).length) ((hGN.2.2.2.2.1 s hs).2.2) ?_
        refine x_icmp_ge (tgt := 167) dX2_tell_105 (by decide) (fun _ => ?_) (fun h_ => absurd ((nI_leI (by omega) (by omega)).mpr (Nat.le_refl _)) h_)
        refine x_aload_n dX2_tell_167 0 rfl rfl ?_
        refine x_get dX2_tell_168 vC_2 in_X2 hN.1 13 (by decide) q1889 rfl ?_
        refine x_top (x' := nI (tellL S s).length) (hLN.2.1) ?_
        exact x_iret dX2_tell_171 rfl (⟨_, rfl, by rw [hco], by rw [hco]; exact ⟨N, hN, hFN, hMN, hLN⟩⟩)
      | succ d ih =>
        intro i f τ N hi hN hFN hMN hLN
        have hGN := hMN.gr hG
        obtain ⟨x, hx⟩ : ∃ x, (qu S s)[i]? = some x := ⟨_, List.getElem?_eq_getElem (by omega)⟩
        have hxr := hI.w hs (List.mem_of_getElem? hx)
        have hxC := hI.th hxr.1
        have hx24 : x.1 < 24 := by omega
        have hxk : kindOf S x.1 = x.2.1 := by
          have h1 := aAt_row hI.uq hs (List.mem_of_getElem? hx)
          unfold kindOf aWish
          rw [h1]
          simp only
          rw [wish_row (hI.nd hs) (List.mem_of_getElem? hx)]
        obtain ⟨t, ht⟩ : ∃ t, t = base ++ holdL S s (nC S) ++ waitL S s i := ⟨_, rfl⟩
        have htl : t.length ≤ 3 + 96 + 32 := by
          rw [ht, List.length_append, List.length_append]
          have h1 := holdL_len (S := S) (s := s) (nC S)
          have h2 := waitL_len (S := S) (s := s) i
          omega
        rw [← ht] at hLN
        have hsx := sgL_lt (k := x.2.1)
        have hnx := numL_len (n := x.1)
        have join : ∀ (c : Nat), c = (if i = 0 then 60 else 44) → X l yX2_tell cX2_tell 5 (some FieldType.int) [] G (yroom 2 0 0) (yEnd G (yroom 2 0 0) (PI fun z τ => z = (qTell S ln (nI s)).1 ∧ WL a ad σ M (qTell S ln (nI s)).2 τ)) 130 [(0, .ref a), (1, .int (nI s)), (2, .int f), (3, .int (nI i)), (4, .int (nI x.1))] [.int (nI c), .ref a] τ 0 0 := by
          intro c hc
          have hc128 : c < 128 := by rw [hc]; split <;> decide
          refine x_callV dX2_tell_130 (con_X2_writes (t := t) (c := c) hN hLN (by omega) (hc128)) (lw_V q2193 q2195 qs80 q101 q2196) (np := 1) (by decide +kernel) rfl (rcv_of vC_2 hN.1) ⟨Nat.le_of_ble_eq_true rfl, Nat.le_of_ble_eq_true rfl⟩ (Nat.le_of_ble_eq_true rfl) rfl (by decide) (by decide) (rV fun σ4 h3 => ?_) nV'
          obtain ⟨N6, hAN6, hFN6, hMN6, hLN6⟩ : WL a ad σ M (t ++ [c]) σ4 := WL.tr hFN hMN h3
          refine x_aload_n dX2_tell_133 0 rfl rfl ?_
          refine x_iload dX2_tell_134 4 rfl ?_
          refine x_callV dX2_tell_136 (con_X2_writesNumber (t := (t ++ [c])) (n := x.1) hAN6 hLN6 (by rw [List.length_append]; show t.length + 1 < 198; omega) (by omega)) (lw_V q2189 q2191 qs79 q101 q2192) (np := 1) (by decide +kernel) rfl (rcv_of vC_2 hAN6.1) ⟨Nat.le_of_ble_eq_true rfl, Nat.le_of_ble_eq_true rfl⟩ (Nat.le_of_ble_eq_true rfl) rfl (by decide) (by decide) (rV fun σ8 h7 => ?_) nV'
          obtain ⟨N10, hAN10, hFN10, hMN10, hLN10⟩ : WL a ad σ M (t ++ [c] ++ numL x.1) σ8 := WL.tr hFN6 hMN6 h7
          have hGK := hMN10.gr hG
          refine x_aload_n dX2_tell_139 0 rfl rfl ?_
          refine x_aload_n dX2_tell_140 0 rfl rfl ?_
          refine x_iload dX2_tell_141 4 rfl ?_
          refine x_iconst (v := nI 2) dX2_tell_143 (by decide) ?_
          refine x_callV dX2_tell_144 (con_X2_of hAN10 (m := x.1) (w := 2) hx24 (by decide)) (lw_V q1966 q1968 qs44 q101 q1969) (np := 2) (by decide +kernel) rfl (rcv_of vC_2 hAN10.1) ⟨Nat.le_of_ble_eq_true rfl, Nat.le_of_ble_eq_true rfl⟩ (Nat.le_of_ble_eq_true rfl) rfl (by decide) (by decide) (rS ?_) nI'
          refine x_top (x' := nI x.2.1) ((hGK.2.2.1 x.1 hxC).2.trans (by rw [hxk])) ?_
          refine x_iconst (v := nI 1) dX2_tell_147 (by decide) ?_
          refine x_icmp_ne (tgt := 156) dX2_tell_148 (by decide) (fun c2 => ?_) (fun c2 => ?_)
          · have c2 := nNe (by omega) (by omega) c2
            have hsg : sgL x.2.1 = 120 := by unfold sgL; exact if_neg c2
            refine x_bipush (v := nI 120) dX2_tell_156 (by decide) ?_
            refine x_callV dX2_tell_158 (con_X2_writes (t := (t ++ [c] ++ numL x.1)) (c := 120) hAN10 hLN10 (by rw [List.length_append, List.length_append]; show t.length + 1 + _ < 200; omega) (by decide)) (lw_V q2193 q2195 qs80 q101 q2196) (np := 1) (by decide +kernel) rfl (rcv_of vC_2 hAN10.1) ⟨Nat.le_of_ble_eq_true rfl, Nat.le_of_ble_eq_true rfl⟩ (Nat.le_of_ble_eq_true rfl) rfl (by decide) (by decide) (rV fun σ13 h12 => ?_) nV'
            obtain ⟨N15, hAN15, hFN15, hMN15, hLN15⟩ : WL a ad σ M (t ++ [c] ++ numL x.1 ++ [120]) σ13 := WL.tr hFN10 hMN10 h12
            refine x_iinc (i := 3) (q := 3) (v := nI (i + 1)) (L' := [(3, .int (nI (i + 1))), (0, .ref a), (1, .int (nI s)), (2, .int f), (4, .int (nI x.1))]) dX2_tell_161 rfl (nI_1 _) (by decide) rfl ?_
            refine x_goto (tgt := 98) dX2_tell_164 (by decide) ?_
            refine x_locs (L' := [(0, .ref a), (1, .int (nI s)), (2, .int f), (3, .int (nI (i + 1)))]) [1, 2, 3, 0] rfl ?_
            exact ih (i + 1) f _ _ (by omega) hAN15 hFN15 hMN15 (by have := hLN15; rw [ht, hc] at this; rw [waitL_s hx, hsg]; simpa [List.append_assoc] using this)
          · have c2 := nEq (by omega) (by omega) c2
            have hsg : sgL x.2.1 = 115 := by unfold sgL; exact if_pos c2
            refine x_bipush (v := nI 115) dX2_tell_151 (by decide) ?_
            refine x_goto (tgt := 158) dX2_tell_153 (by decide) ?_
            refine x_callV dX2_tell_158 (con_X2_writes (t := (t ++ [c] ++ numL x.1)) (c := 115) hAN10 hLN10 (by rw [List.length_append, List.length_append]; show t.length + 1 + _ < 200; omega) (by decide)) (lw_V q2193 q2195 qs80 q101 q2196) (np := 1) (by decide +kernel) rfl (rcv_of vC_2 hAN10.1) ⟨Nat.le_of_ble_eq_true rfl, Nat.le_of_ble_eq_true rfl⟩ (Nat.le_of_ble_eq_true rfl) rfl (by decide) (by decide) (rV fun σ17 h16 => ?_) nV'
            obtain ⟨N19, hAN19, hFN19, hMN19, hLN19⟩ : WL a ad σ M (t ++ [c] ++ numL x.1 ++ [115]) σ17 := WL.tr hFN10 hMN10 h16
            refine x_iinc (i := 3) (q := 3) (v := nI (i + 1)) (L' := [(3, .int (nI (i + 1))), (0, .ref a), (1, .int (nI s)), (2, .int f), (4, .int (nI x.1))]) dX2_tell_161 rfl (nI_1 _) (by decide) rfl ?_
            refine x_goto (tgt := 98) dX2_tell_164 (by decide) ?_
            refine x_locs (L' := [(0, .ref a), (1, .int (nI s)), (2, .int f), (3, .int (nI (i + 1)))]) [1, 2, 3, 0] rfl ?_
            exact ih (i + 1) f _ _ (by omega) hAN19 hFN19 hMN19 (by have := hLN19; rw [ht, hc] at this; rw [waitL_s hx, hsg]; simpa [List.append_assoc] using this)
        refine x_iload_n dX2_tell_98 3 rfl rfl ?_
        refine x_aload_n dX2_tell_99 0 rfl rfl ?_
        refine x_iload_n dX2_tell_100 1 rfl rfl ?_
        refine x_iconst (v := nI 2) dX2_tell_101 (by decide) ?_
        refine x_callV dX2_tell_102 (con_X2_shelf hN (s := s) (w := 2) hs (by decide)) (lw_V q1989 q1991 qs49 q101 q1992) (np := 2) (by decide +kernel) rfl (rcv_of vC_2 hN.1) ⟨Nat.le_of_ble_eq_true rfl, Nat.le_of_ble_eq_true rfl⟩ (Nat.le_of_ble_eq_true rfl) rfl (by decide) (by decide) (rS ?_) nI'
        refine x_top (x' := nI (qu S s).length) ((hGN.2.2.2.2.1 s hs).2.2) ?_
        refine x_icmp_ge (tgt := 167) dX2_tell_105 (by decide) (fun h_ => absurd h_ (fun h => absurd (nLe (by omega) (by omega) h) (by omega))) (fun _ => ?_)
        refine x_aload_n dX2_tell_108 0 rfl rfl ?_
        refine x_iload_n dX2_tell_109 1 rfl rfl ?_
        refine x_iconst (v := nI 3) dX2_tell_110 (by decide) ?_
        refine x_iload_n dX2_tell_111 3 rfl rfl ?_
        refine x_iadd dX2_tell_112 ?_
        refine x_top (x' := nI (3 + i)) (nI_add _ _) ?_
        refine x_callV dX2_tell_113 (con_X2_shelf hN (s := s) (w := 3 + i) hs (by omega)) (lw_V q1989 q1991 qs49 q101 q1992) (np := 2) (by decide +kernel) rfl (rcv_of vC_2 hN.1) ⟨Nat.le_of_ble_eq_true rfl, Nat.le_of_ble_eq_true rfl⟩ (Nat.le_of_ble_eq_true rfl) rfl (by decide) (by decide) (rS ?_) nI'
        refine x_top (x' := nI x.1) (hGN.2.2.2.2.2 s i x hs hx) ?_
        refine x_istore (i := 4) (L' := [(4, .int (nI x.1)), (0, .ref a), (1, .int (nI s)), (2, .int f), (3, .int (nI i))]) dX2_tell_116 (by decide) rfl ?_
        refine x_aload_n dX2_tell_118 1 rfl rfl ?_
        refine x_iload_n dX2_tell_119 4 rfl rfl ?_
        refine x_if_ne (tgt := 128) dX2_tell_120 (by decide) (fun c3 => ?_) (fun c3 => ?_)
        · have c3 := nN0 c3
          refine x_bipush (v := nI 44) dX2_tell_128 (by decide) ?_
          refine x_locs (L' := [(0, .ref a), (1, .int (nI s)), (2, .int f), (3, .int (nI i)), (4, .int (nI x.1))]) [1, 2, 3, 4, 0] rfl ?_
          exact join 44 (by rw [if_neg c3])
        · have c3 := n0 (by omega) c3
          refine x_bipush (v := nI 60) dX2_tell_123 (by decide) ?_
          refine x_goto (tgt := 130) dX2_tell_125 (by decide) ?_
          refine x_locs (L' := [(0, .ref a), (1, .int (nI s)), (2, .int f), (3, .int (nI i)), (4, .int (nI x.1))]) [1, 2, 3, 4, 0] rfl ?_
          exact join 60 (by rw [if_pos c3])
    have first : ∀ (d i : Nat) (τ : AH) (N : MS), i + d = nC S → MAt τ a ad N → MF a ad σ τ → MLn M N → LN N (base ++ holdL S s i) → X l yX2_tell cX2_tell 5 (some FieldType.int) [] G (yroom 2 0 0) (yEnd G (yroom 2 0 0) (PI fun z τ => z = (qTell S ln (nI s)).1 ∧ WL a ad σ M (qTell S ln (nI s)).2 τ)) 30 [(0, .ref a), (1, .int (nI s)), (2, .int (bI (cn (heldF S s) i == 0))), (3, .int (nI i))] [] τ 0 0 := by
      intro d
      induction d with
      | zero =>
        intro i τ N hi hN hFN hMN hLN
        have hin : i = nC S := by omega
        subst hin
        have hGN := hMN.gr hG
        refine x_iload_n dX2_tell_30 3 rfl rfl ?_
        refine x_aload_n dX2_tell_31 0 rfl rfl ?_
        refine x_get dX2_tell_32 vC_2 in_X2 hN.1 0 (by decide) q1876 rfl ?_
        refine x_iconst (v := nI 0) dX2_tell_35 (by decide) ?_
        refine x_iald (N := 429) (j := 0) (v := nI (nC S)) dX2_tell_36 (hN.2.1 0 rfl) (rfl) (by decide) (by decide) (hGN.c) ?_
        refine x_icmp_ge (tgt := 96) dX2_tell_37 (by decide) (fun _ => ?_) (fun h_ => absurd ((nI_leI (by omega) (by omega)).mpr (Nat.le_refl _)) h_)
        refine x_iconst (v := nI 0) dX2_tell_96 (by decide) ?_
        refine x_istore_n (i := 3) (L' := [(3, .int (nI 0)), (0, .ref a), (1, .int (nI s)), (2, .int (bI (cn (heldF S s) (nC S) == 0)))]) dX2_tell_97 rfl (by decide) rfl ?_
        refine x_locs (L' := [(0, .ref a), (1, .int (nI s)), (2, .int (bI (cn (heldF S s) (nC S) == 0))), (3, .int (nI 0))]) [1, 2, 3, 0] rfl ?_
        exact second (qu S s).length 0 _ τ N (Nat.zero_add _) hN hFN hMN (by show LN N (base ++ holdL S s (nC S) ++ []); rw [List.append_nil]; exact hLN)
      | succ d ih =>
        intro i τ N hi hN hFN hMN hLN
        have hGN := hMN.gr hG
        have h2 := hI.2.2.1 i s
        have hcn := cn_le (f := heldF S s) (n := i)
        have hii := numL_len (n := i)
        obtain ⟨t, ht⟩ : ∃ t, t = base ++ holdL S s i := ⟨_, rfl⟩
        have htl : t.length ≤ 3 + 96 := by
          rw [ht, List.length_append]
          have h1 := holdL_len (S := S) (s := s) i
          omega
        rw [← ht] at hLN
        refine x_iload_n dX2_tell_30 3 rfl rfl ?_
        refine x_aload_n dX2_tell_31 0 rfl rfl ?_
        refine x_get dX2_tell_32 vC_2 in_X2 hN.1 0 (by decide) q1876 rfl ?_
        refine x_iconst (v := nI 0) dX2_tell_35 (by decide) ?_
        refine x_iald (N := 429) (j := 0) (v := nI (nC S)) dX2_tell_36 (hN.2.1 0 rfl) (rfl) (by decide) (by decide) (hGN.c) ?_
        refine x_icmp_ge (tgt := 96) dX2_tell_37 (by decide) (fun h_ => absurd h_ (fun h => absurd (nLe (by omega) (by omega) h) (by omega))) (fun _ => ?_)
        refine x_aload_n dX2_tell_40 0 rfl rfl ?_
        refine x_iload_n dX2_tell_41 3 rfl rfl ?_
        refine x_iload_n dX2_tell_42 1 rfl rfl ?_
        refine x_callV dX2_tell_43 (con_X2_lock hN (m := i) (s := s) (by omega) hs) (lw_V q1977 q1979 qs46 q101 q1980) (np := 2) (by decide +kernel) rfl (rcv_of vC_2 hN.1) ⟨Nat.le_of_ble_eq_true rfl, Nat.le_of_ble_eq_true rfl⟩ (Nat.le_of_ble_eq_true rfl) rfl (by decide) (by decide) (rS ?_) nI'
        refine x_top (x' := nI (hw S i s)) (hGN.hwE (by omega) hs) ?_
        refine x_if_ne (tgt := 52) dX2_tell_46 (by decide) (fun c2 => ?_) (fun c2 => ?_)
        · have c2 := nN0 c2
          have hf : heldF S s i = true := by show (!(_ == 0)) = true; simp [c2]
          have hcs : (cn (heldF S s) (i + 1) == 0) = false := by rw [cn_t hf]; rfl
          have join : ∀ (t1 : List Nat) (υ : AH) (K : MS), t1 = t ++ (if cn (heldF S s) i = 0 then [] else [44]) → t1.length ≤ 100 → MAt υ a ad K → MF a ad σ υ → MLn M K → LN K t1 → X l yX2_tell cX2_tell 5 (some FieldType.int) [] G (yroom 2 0 0) (yEnd G (yroom 2 0 0) (PI fun z τ => z = (qTell S ln (nI s)).1 ∧ WL a ad σ M (qTell S ln (nI s)).2 τ)) 62 [(0, .ref a), (1, .int (nI s)), (2, .int (bI (cn (heldF S s) i == 0))), (3, .int (nI i))] [] υ 0 0 := by
            intro t1 υ K he hl1 hK hFK hMK hLK
            refine x_iconst (v := nI 0) dX2_tell_62 (by decide) ?_
            refine x_istore_n (i := 2) (L' := [(2, .int (nI 0)), (0, .ref a), (1, .int (nI s)), (3, .int (nI i))]) dX2_tell_63 rfl (by decide) rfl ?_
            refine x_aload_n dX2_tell_64 1 rfl rfl ?_
            refine x_iload_n dX2_tell_65 3 rfl rfl ?_
            refine x_callV dX2_tell_66 (con_X2_writesNumber (t := t1) (n := i) hK hLK (by omega) (by omega)) (lw_V q2189 q2191 qs79 q101 q2192) (np := 1) (by decide +kernel) rfl (rcv_of vC_2 hK.1) ⟨Nat.le_of_ble_eq_true rfl, Nat.le_of_ble_eq_true rfl⟩ (Nat.le_of_ble_eq_true rfl) rfl (by decide) (by decide) (rV fun σ24 h23 => ?_) nV'
            obtain ⟨N26, hAN26, hFN26, hMN26, hLN26⟩ : WL a ad σ M (t1 ++ numL i) σ24 := WL.tr hFK hMK h23
            have hGQ := hMN26.gr hG
            refine x_aload_n dX2_tell_69 1 rfl rfl ?_
            refine x_aload_n dX2_tell_70 1 rfl rfl ?_
            refine x_iload_n dX2_tell_71 3 rfl rfl ?_
            refine x_iload_n dX2_tell_72 2 rfl rfl ?_
            refine x_callV dX2_tell_73 (con_X2_lock hAN26 (m := i) (s := s) (by omega) hs) (lw_V q1977 q1979 qs46 q101 q1980) (np := 2) (by decide +kernel) rfl (rcv_of vC_2 hAN26.1) ⟨Nat.le_of_ble_eq_true rfl, Nat.le_of_ble_eq_true rfl⟩ (Nat.le_of_ble_eq_true rfl) rfl (by decide) (by decide) (rS ?_) nI'
            refine x_top (x' := nI (hw S i s)) (hGQ.hwE (by omega) hs) ?_
            refine x_iconst (v := nI 1) dX2_tell_76 (by decide) ?_
            refine x_icmp_ne (tgt := 85) dX2_tell_77 (by decide) (fun c4 => ?_) (fun c4 => ?_)
            · have c4 := nNe (by omega) (by omega) c4
              have hsg : sgL (hw S i s) = 120 := by unfold sgL; exact if_neg c4
              refine x_bipush (v := nI 120) dX2_tell_85 (by decide) ?_
              refine x_callV dX2_tell_87 (con_X2_writes (t := (t1 ++ numL i)) (c := 120) hAN26 hLN26 (by rw [List.length_append]; omega) (by decide)) (lw_V q2193 q2195 qs80 q101 q2196) (np := 1) (by decide +kernel) rfl (rcv_of vC_2 hAN26.1) ⟨Nat.le_of_ble_eq_true rfl, Nat.le_of_ble_eq_true rfl⟩ (Nat.le_of_ble_eq_true rfl) rfl (by decide) (by decide) (rV fun σ29 h28 => ?_) nV'
              obtain ⟨N31, hAN31, hFN31, hMN31, hLN31⟩ : WL a ad σ M (t1 ++ numL i ++ [120]) σ29 := WL.tr hFN26 hMN26 h28
              refine x_iinc (i := 3) (q := 3) (v := nI (i + 1)) (L' := [(3, .int (nI (i + 1))), (2, .int (nI 0)), (0, .ref a), (1, .int (nI s))]) dX2_tell_90 rfl (nI_1 _) (by decide) rfl ?_
              refine x_goto (tgt := 30) dX2_tell_93 (by decide) ?_
              refine x_locs (L' := [(0, .ref a), (1, .int (nI s)), (2, .int (nI 0)), (3, .int (nI (i + 1)))]) [2, 3, 1, 0] rfl ?_
              have := ih (i + 1) _ _ (by omega) hAN31 hFN31 hMN31 (by have := hLN31; rw [he, ht] at this; rw [holdL_s, if_neg c2, hsg]; simpa [List.append_assoc] using this)
              rw [hcs] at this
              exact this
            · have c4 := nEq (by omega) (by omega) c4
              have hsg : sgL (hw S i s) = 115 := by unfold sgL; exact if_pos c4
              refine x_bipush (v := nI 115) dX2_tell_80 (by decide) ?_
              refine x_goto (tgt := 87) dX2_tell_82 (by decide) ?_
              refine x_callV dX2_tell_87 (con_X2_writes (t := (t1 ++ numL i)) (c := 115) hAN26 hLN26 (by rw [List.length_append]; omega) (by decide)) (lw_V q2193 q2195 qs80 q101 q2196) (np := 1) (by decide +kernel) rfl (rcv_of vC_2 hAN26.1) ⟨Nat.le_of_ble_eq_true rfl, Nat.le_of_ble_eq_true rfl⟩ (Nat.le_of_ble_eq_true rfl) rfl (by decide) (by decide) (rV fun σ33 h32 => ?_) nV'
              obtain ⟨N35, hAN35, hFN35, hMN35, hLN35⟩ : WL a ad σ M (t1 ++ numL i ++ [115]) σ33 := WL.tr hFN26 hMN26 h32
              refine x_iinc (i := 3) (q := 3) (v := nI (i + 1)) (L' := [(3, .int (nI (i + 1))), (2, .int (nI 0)), (0, .ref a), (1, .int (nI s))]) dX2_tell_90 rfl (nI_1 _) (by decide) rfl ?_
              refine x_goto (tgt := 30) dX2_tell_93 (by decide) ?_
              refine x_locs (L' := [(0, .ref a), (1, .int (nI s)), (2, .int (nI 0)), (3, .int (nI (i + 1)))]) [2, 3, 1, 0] rfl ?_
              have := ih (i + 1) _ _ (by omega) hAN35 hFN35 hMN35 (by have := hLN35; rw [he, ht] at this; rw [holdL_s, if_neg c2, hsg]; simpa [List.append_assoc] using this)
              rw [hcs] at this
              exact this
          refine x_iload_n dX2_tell_52 2 rfl rfl ?_
          refine x_if_ne (tgt := 62) dX2_tell_53 (by decide) (fun c3 => ?_) (fun c3 => ?_)
          · have c3 : cn (heldF S s) i = 0 := by have := bI_1 c3; simpa using this
            refine x_locs (L' := [(0, .ref a), (1, .int (nI s)), (2, .int (bI (cn (heldF S s) i == 0))), (3, .int (nI i))]) [0, 1, 2, 3] rfl ?_
            exact join t τ N (by rw [if_pos c3, List.append_nil]) (by omega) hN hFN hMN hLN
          · have c3 : cn (heldF S s) i ≠ 0 := by have := bI_0 c3; simpa using this
            refine x_aload_n dX2_tell_56 0 rfl rfl ?_
            refine x_bipush (v := nI 44) dX2_tell_57 (by decide) ?_
            refine x_callV dX2_tell_59 (con_X2_writes (t := t) (c := 44) hN hLN (by omega) (by decide)) (lw_V q2193 q2195 qs80 q101 q2196) (np := 1) (by decide +kernel) rfl (rcv_of vC_2 hN.1) ⟨Nat.le_of_ble_eq_true rfl, Nat.le_of_ble_eq_true rfl⟩ (Nat.le_of_ble_eq_true rfl) rfl (by decide) (by decide) (rV fun σ37 h36 => ?_) nV'
            obtain ⟨N39, hAN39, hFN39, hMN39, hLN39⟩ : WL a ad σ M (t ++ [44]) σ37 := WL.tr hFN hMN h36
            refine x_locs (L' := [(0, .ref a), (1, .int (nI s)), (2, .int (bI (cn (heldF S s) i == 0))), (3, .int (nI i))]) [0, 1, 2, 3] rfl ?_
            exact join _ _ _ (by rw [if_neg c3]) (by rw [List.length_append]; show t.length + 1 ≤ 100; omega) hAN39 hFN39 hMN39 hLN39
        · have c2 := n0 (by omega) c2
          have hf : heldF S s i = false := by show (!(_ == 0)) = false; simp [c2]
          have hcs : cn (heldF S s) (i + 1) = cn (heldF S s) i := cn_f hf
          refine x_goto (tgt := 90) dX2_tell_49 (by decide) ?_
          refine x_iinc (i := 3) (q := 3) (v := nI (i + 1)) (L' := [(3, .int (nI (i + 1))), (0, .ref a), (1, .int (nI s)), (2, .int (bI (cn (heldF S s) i == 0)))]) dX2_tell_90 rfl (nI_1 _) (by decide) rfl ?_
          refine x_goto (tgt := 30) dX2_tell_93 (by decide) ?_
          refine x_locs (L' := [(0, .ref a), (1, .int (nI s)), (2, .int (bI (cn (heldF S s) i == 0))), (3, .int (nI (i + 1)))]) [1, 2, 3, 0] rfl ?_
          have := ih (i + 1) τ N (by omega) hN hFN hMN (by rw [holdL_s, if_pos c2, List.append_nil, ← ht]; exact hLN)
          rw [hcs] at this
          exact this
    refine x_aload_n dX2_tell_10 0 rfl rfl ?_
    refine x_iconst (v := nI 0) dX2_tell_11 (by decide) ?_
    refine x_put (fs' := mFs ad (mS M 13 (nI 0))) dX2_tell_12 vC_2 in_X2 tyX2_ok nmX2 hM.1 13 (by decide) q1889 rfl rfl (rfl) (rfl) (Nat.le_of_ble_eq_true rfl) rfl (fun σ40 h41 h42 => ?_)
    obtain ⟨hAM43, hBM43⟩ := hM.fld (k := 13) (v := nI 0) h41 h42
    have hL0 : LN (mS M 13 (nI 0)) [] := ⟨Nat.zero_le _, rfl, fun i c h => by cases h⟩
    have hns := numL_len (n := s)
    refine x_aload_n dX2_tell_15 0 rfl rfl ?_
    refine x_iload_n dX2_tell_16 1 rfl rfl ?_
    refine x_callV dX2_tell_17 (con_X2_writesNumber (t := ([])) (n := s) hAM43 hL0 (by decide) (by omega)) (lw_V q2189 q2191 qs79 q101 q2192) (np := 1) (by decide +kernel) rfl (rcv_of vC_2 hAM43.1) ⟨Nat.le_of_ble_eq_true rfl, Nat.le_of_ble_eq_true rfl⟩ (Nat.le_of_ble_eq_true rfl) rfl (by decide) (by decide) (rV fun σ45 h44 => ?_) nV'
    obtain ⟨N47, hAN47, hFN47, hMN47, hLN47⟩ : WL a ad σ M ([] ++ numL s) σ45 := WL.tr (MF.tr MF.rf hBM43) MLn.s13 h44
    refine x_aload_n dX2_tell_20 0 rfl rfl ?_
    refine x_bipush (v := nI 58) dX2_tell_21 (by decide) ?_
    refine x_callV dX2_tell_23 (con_X2_writes (t := ([] ++ numL s)) (c := 58) hAN47 hLN47 (by show (numL s).length < 200; omega) (by decide)) (lw_V q2193 q2195 qs80 q101 q2196) (np := 1) (by decide +kernel) rfl (rcv_of vC_2 hAN47.1) ⟨Nat.le_of_ble_eq_true rfl, Nat.le_of_ble_eq_true rfl⟩ (Nat.le_of_ble_eq_true rfl) rfl (by decide) (by decide) (rV fun σ49 h48 => ?_) nV'
    obtain ⟨N51, hAN51, hFN51, hMN51, hLN51⟩ : WL a ad σ M ([] ++ numL s ++ [58]) σ49 := WL.tr hFN47 hMN47 h48
    refine x_iconst (v := nI 1) dX2_tell_26 (by decide) ?_
    refine x_istore_n (i := 2) (L' := [(2, .int (nI 1)), (0, .ref a), (1, .int (nI s))]) dX2_tell_27 rfl (by decide) rfl ?_
    refine x_iconst (v := nI 0) dX2_tell_28 (by decide) ?_
    refine x_istore_n (i := 3) (L' := [(3, .int (nI 0)), (2, .int (nI 1)), (0, .ref a), (1, .int (nI s))]) dX2_tell_29 rfl (by decide) rfl ?_
    refine x_locs (L' := [(0, .ref a), (1, .int (nI s)), (2, .int (nI 1)), (3, .int (nI 0))]) [2, 3, 1, 0] rfl ?_
    exact first (nC S) 0 _ _ (Nat.zero_add _) hAN51 hFN51 hMN51 (by have := hLN51; rw [hbase]; show LN _ (numL s ++ [58] ++ []); rw [List.append_nil]; exact this)
  · have c1 : isS u = false := bI_0 c1
    have hco : qTell S ln u = (-11, ln) := by unfold qTell; rw [c1]; rfl
    refine x_bipush (v := (-11)) dX2_tell_7 (by decide) ?_
    exact x_iret dX2_tell_9 rfl (⟨_, rfl, by rw [hco], by rw [hco]; exact WL.rf hM hL⟩)
theorem kind_le {S : AS} (hI : IV S) {m : Nat} : kindOf S m ≤ 2 := by
  cases ha : aAt S m with
  | none => unfold kindOf aWish; rw [ha]; exact Nat.zero_le _
  | some s =>
    obtain ⟨hs, w, h1⟩ := aAt_some ha
    unfold kindOf aWish
    rw [ha]
    simp only
    rw [h1]
    have := (hI.w hs (wishIn_some h1).1).2.1
    show w.2.1 ≤ 2
    omega
set_option maxHeartbeats 4000000 in
set_option maxRecDepth 100000 in
theorem con_X2_tellMaid {l : Launch} {G : YG} {σ : AH} {a : Nat} {ad : Nat → Nat} {M : MS} {S : AS} {ln : List Nat} {v : Int32} (hM : MAt σ a ad M) (hG : GR (M.1 0) S) (hI : IV S) (hL : LN M ln) : Con l yX2_tellMaid cX2_tellMaid 3 (some FieldType.int) G 2 0 0 [.ref a, .int v] σ (PI fun z τ => z = (qTellM S ln v).1 ∧ WL a ad σ M (qTellM S ln v).2 τ) := by
  refine con_of (by decide) (Nat.le_of_ble_eq_true rfl) ?_
  refine x_locs (L' := [(0, .ref a), (1, .int v)]) [0, 1] rfl ?_
  refine x_aload_n dX2_tellMaid_0 0 rfl rfl ?_
  refine x_iload_n dX2_tellMaid_1 1 rfl rfl ?_
  refine x_callV dX2_tellMaid_2 (con_X2_isMaid hM hG hI (v := v)) (lw_V q1959 q1961 qs43 q101 q1962) (np := 1) (by decide +kernel) rfl (rcv_of vC_2 hM.1) ⟨Nat.le_of_ble_eq_true rfl, Nat.le_of_ble_eq_true rfl⟩ (Nat.le_of_ble_eq_true rfl) rfl (by decide) (by decide) (rS ?_) nI'
  refine x_if_ne (tgt := 11) dX2_tellMaid_5 (by decide) (fun c1 => ?_) (fun c1 => ?_)
  · have c1 := bI_1 c1
    obtain ⟨m, hm, rfl, hvn, htm⟩ := isT_of hI.c c1
    have hC := hI.c
    have hm24 : m < 24 := by omega
    have hco : qTellM S ln (nI m) = (nI (tellML S m).length, tellML S m) := by unfold qTellM; rw [c1, show iN (nI m) = m from hvn]; rfl
    obtain ⟨base, hbase⟩ : ∃ base, base = numL m ++ [61] := ⟨_, rfl⟩
    have hbl : base.length ≤ 3 := by rw [hbase, List.length_append]; have := numL_len (n := m); show _ + 1 ≤ 3; omega
    have first : ∀ (d i : Nat) (τ : AH) (N : MS), i + d = 8 → MAt τ a ad N → MF a ad σ τ → MLn M N → LN N (base ++ lockL S m i) → X l yX2_tellMaid cX2_tellMaid 3 (some FieldType.int) [] G (yroom 2 0 0) (yEnd G (yroom 2 0 0) (PI fun z τ => z = (qTellM S ln (nI m)).1 ∧ WL a ad σ M (qTellM S ln (nI m)).2 τ)) 29 [(0, .ref a), (1, .int (nI m)), (2, .int (nI i))] [] τ 0 0 := by
      intro d
      induction d with
      | zero =>
        intro i τ N hi hN hFN hMN hLN
        have hin : i = 8 := by omega
        subst hin
        have hGN := hMN.gr hG
        refine x_iload_n dX2_tellMaid_29 2 rfl rfl ?_
        refine x_bipush (v := nI 8) dX2_tellMaid_30 (by decide) ?_
        refine x_icmp_ge (tgt := 79) dX2_tellMaid_32 (by decide) (fun _ => ?_) (fun h_ => absurd (by decide) h_)
        refine x_aload_n dX2_tellMaid_79 0 rfl rfl ?_
        refine x_iload_n dX2_tellMaid_80 1 rfl rfl ?_
        refine x_iconst (v := nI 1) dX2_tellMaid_81 (by decide) ?_
        refine x_callV dX2_tellMaid_82 (con_X2_of hN (m := m) (w := 1) hm24 (by decide)) (lw_V q1966 q1968 qs44 q101 q1969) (np := 2) (by decide +kernel) rfl (rcv_of vC_2 hN.1) ⟨Nat.le_of_ble_eq_true rfl, Nat.le_of_ble_eq_true rfl⟩ (Nat.le_of_ble_eq_true rfl) rfl (by decide) (by decide) (rS ?_) nI'
        refine x_top (x' := atI S m) ((hGN.2.2.1 m hm).1) ?_
        cases ha : aAt S m with
        | none =>
          have he : tellML S m = base ++ lockL S m 8 := by rw [hbase]; unfold tellML; rw [ha]; exact List.append_nil _
          rw [← he] at hLN
          refine x_if_ge (tgt := 93) dX2_tellMaid_85 (by decide) (fun h_ => absurd h_ (by rw [atI_none ha]; decide)) (fun _ => ?_)
          refine x_aload_n dX2_tellMaid_88 0 rfl rfl ?_
          refine x_get dX2_tellMaid_89 vC_2 in_X2 hN.1 13 (by decide) q1889 rfl ?_
          refine x_top (x' := nI (tellML S m).length) (hLN.2.1) ?_
          exact x_iret dX2_tellMaid_92 rfl (⟨_, rfl, by rw [hco], by rw [hco]; exact ⟨N, hN, hFN, hMN, hLN⟩⟩)
        | some s =>
          have hs := (aAt_some ha).1
          have he : tellML S m = base ++ lockL S m 8 ++ [63] ++ numL s ++ [sgL (kindOf S m)] := by rw [hbase]; unfold tellML; rw [ha]; simp [List.append_assoc]
          obtain ⟨t, ht⟩ : ∃ t, t = base ++ lockL S m 8 := ⟨_, rfl⟩
          have htl : t.length ≤ 27 := by
            rw [ht, List.length_append]
            have h1 := lockL_len (S := S) (m := m) 8
            omega
          rw [← ht] at hLN he
          have hns := numL_len (n := s)
          have hk3 : kindOf S m ≤ 2 := kind_le hI
          refine x_if_ge (tgt := 93) dX2_tellMaid_85 (by decide) (fun _ => ?_) (fun h_ => absurd (by rw [atI_some ha]; exact nI_pos' (by omega)) h_)
          refine x_aload_n dX2_tellMaid_93 0 rfl rfl ?_
          refine x_bipush (v := nI 63) dX2_tellMaid_94 (by decide) ?_
          refine x_callV dX2_tellMaid_96 (con_X2_writes (t := t) (c := 63) hN hLN (by omega) (by decide)) (lw_V q2193 q2195 qs80 q101 q2196) (np := 1) (by decide +kernel) rfl (rcv_of vC_2 hN.1) ⟨Nat.le_of_ble_eq_true rfl, Nat.le_of_ble_eq_true rfl⟩ (Nat.le_of_ble_eq_true rfl) rfl (by decide) (by decide) (rV fun σ4 h3 => ?_) nV'
          obtain ⟨N6, hAN6, hFN6, hMN6, hLN6⟩ : WL a ad σ M (t ++ [63]) σ4 := WL.tr hFN hMN h3
          have hGK := hMN6.gr hG
          refine x_aload_n dX2_tellMaid_99 0 rfl rfl ?_
          refine x_aload_n dX2_tellMaid_100 0 rfl rfl ?_
          refine x_iload_n dX2_tellMaid_101 1 rfl rfl ?_
          refine x_iconst (v := nI 1) dX2_tellMaid_102 (by decide) ?_
          refine x_callV dX2_tellMaid_103 (con_X2_of hAN6 (m := m) (w := 1) hm24 (by decide)) (lw_V q1966 q1968 qs44 q101 q1969) (np := 2) (by decide +kernel) rfl (rcv_of vC_2 hAN6.1) ⟨Nat.le_of_ble_eq_true rfl, Nat.le_of_ble_eq_true rfl⟩ (Nat.le_of_ble_eq_true rfl) rfl (by decide) (by decide) (rS ?_) nI'
          refine x_top (x' := nI s) ((hGK.2.2.1 m hm).1.trans (atI_some ha)) ?_
          refine x_callV dX2_tellMaid_106 (con_X2_writesNumber (t := (t ++ [63])) (n := s) hAN6 hLN6 (by rw [List.length_append]; show t.length + 1 < 198; omega) (by omega)) (lw_V q2189 q2191 qs79 q101 q2192) (np := 1) (by decide +kernel) rfl (rcv_of vC_2 hAN6.1) ⟨Nat.le_of_ble_eq_true rfl, Nat.le_of_ble_eq_true rfl⟩ (Nat.le_of_ble_eq_true rfl) rfl (by decide) (by decide) (rV fun σ9 h8 => ?_) nV'
          obtain ⟨N11, hAN11, hFN11, hMN11, hLN11⟩ : WL a ad σ M (t ++ [63] ++ numL s) σ9 := WL.tr hFN6 hMN6 h8
          have hGQ := hMN11.gr hG
          refine x_aload_n dX2_tellMaid_109 0 rfl rfl ?_
          refine x_aload_n dX2_tellMaid_110 0 rfl rfl ?_
          refine x_iload_n dX2_tellMaid_111 1 rfl rfl ?_
          refine x_iconst (v := nI 2) dX2_tellMaid_112 (by decide) ?_
          refine x_callV dX2_tellMaid_113 (con_X2_of hAN11 (m := m) (w := 2) hm24 (by decide)) (lw_V q1966 q1968 qs44 q101 q1969) (np := 2) (by decide +kernel) rfl (rcv_of vC_2 hAN11.1) ⟨Nat.le_of_ble_eq_true rfl, Nat.le_of_ble_eq_true rfl⟩ (Nat.le_of_ble_eq_true rfl) rfl (by decide) (by decide) (rS ?_) nI'
          refine x_top (x' := nI (kindOf S m)) ((hGQ.2.2.1 m hm).2) ?_
          refine x_iconst (v := nI 1) dX2_tellMaid_116 (by decide) ?_
          refine x_icmp_ne (tgt := 125) dX2_tellMaid_117 (by decide) (fun c2 => ?_) (fun c2 => ?_)
          · have c2 := nNe (by omega) (by omega) c2
            have hsg : sgL (kindOf S m) = 120 := by unfold sgL; exact if_neg c2
            refine x_bipush (v := nI 120) dX2_tellMaid_125 (by decide) ?_
            refine x_callV dX2_tellMaid_127 (con_X2_writes (t := (t ++ [63] ++ numL s)) (c := 120) hAN11 hLN11 (by rw [List.length_append, List.length_append]; show t.length + 1 + _ < 200; omega) (by decide)) (lw_V q2193 q2195 qs80 q101 q2196) (np := 1) (by decide +kernel) rfl (rcv_of vC_2 hAN11.1) ⟨Nat.le_of_ble_eq_true rfl, Nat.le_of_ble_eq_true rfl⟩ (Nat.le_of_ble_eq_true rfl) rfl (by decide) (by decide) (rV fun σ14 h13 => ?_) nV'
            obtain ⟨N16, hAN16, hFN16, hMN16, hLN16⟩ : WL a ad σ M (t ++ [63] ++ numL s ++ [120]) σ14 := WL.tr hFN11 hMN11 h13
            rw [← hsg, ← he] at hLN16
            refine x_aload_n dX2_tellMaid_130 0 rfl rfl ?_
            refine x_get dX2_tellMaid_131 vC_2 in_X2 hAN16.1 13 (by decide) q1889 rfl ?_
            refine x_top (x' := nI (tellML S m).length) (hLN16.2.1) ?_
            exact x_iret dX2_tellMaid_134 rfl (⟨_, rfl, by rw [hco], by rw [hco]; exact ⟨_, hAN16, hFN16, hMN16, hLN16⟩⟩)
          · have c2 := nEq (by omega) (by omega) c2
            have hsg : sgL (kindOf S m) = 115 := by unfold sgL; exact if_pos c2
            refine x_bipush (v := nI 115) dX2_tellMaid_120 (by decide) ?_
            refine x_goto (tgt := 127) dX2_tellMaid_122 (by decide) ?_
            refine x_callV dX2_tellMaid_127 (con_X2_writes (t := (t ++ [63] ++ numL s)) (c := 115) hAN11 hLN11 (by rw [List.length_append, List.length_append]; show t.length + 1 + _ < 200; omega) (by decide)) (lw_V q2193 q2195 qs80 q101 q2196) (np := 1) (by decide +kernel) rfl (rcv_of vC_2 hAN11.1) ⟨Nat.le_of_ble_eq_true rfl, Nat.le_of_ble_eq_true rfl⟩ (Nat.le_of_ble_eq_true rfl) rfl (by decide) (by decide) (rV fun σ18 h17 => ?_) nV'
            obtain ⟨N20, hAN20, hFN20, hMN20, hLN20⟩ : WL a ad σ M (t ++ [63] ++ numL s ++ [115]) σ18 := WL.tr hFN11 hMN11 h17
            rw [← hsg, ← he] at hLN20
            refine x_aload_n dX2_tellMaid_130 0 rfl rfl ?_
            refine x_get dX2_tellMaid_131 vC_2 in_X2 hAN20.1 13 (by decide) q1889 rfl ?_
            refine x_top (x' := nI (tellML S m).length) (hLN20.2.1) ?_
            exact x_iret dX2_tellMaid_134 rfl (⟨_, rfl, by rw [hco], by rw [hco]; exact ⟨_, hAN20, hFN20, hMN20, hLN20⟩⟩)
      | succ d ih =>
        intro i τ N hi hN hFN hMN hLN
        have hGN := hMN.gr hG
        have h2 := hI.2.2.1 m i
        have hii := numL_len (n := i)
        obtain ⟨t, ht⟩ : ∃ t, t = base ++ lockL S m i := ⟨_, rfl⟩
        have htl : t.length ≤ 27 := by
          rw [ht, List.length_append]
          have h1 := lockL_len (S := S) (m := m) i
          omega
        rw [← ht] at hLN
        refine x_iload_n dX2_tellMaid_29 2 rfl rfl ?_
        refine x_bipush (v := nI 8) dX2_tellMaid_30 (by decide) ?_
        refine x_icmp_ge (tgt := 79) dX2_tellMaid_32 (by decide) (fun h_ => absurd h_ (fun h => absurd (nLe (by omega) (by omega) h) (by omega))) (fun _ => ?_)
        refine x_aload_n dX2_tellMaid_35 0 rfl rfl ?_
        refine x_iload_n dX2_tellMaid_36 1 rfl rfl ?_
        refine x_iload_n dX2_tellMaid_37 2 rfl rfl ?_
        refine x_callV dX2_tellMaid_38 (con_X2_lock hN (m := m) (s := i) hm24 (by omega)) (lw_V q1977 q1979 qs46 q101 q1980) (np := 2) (by decide +kernel) rfl (rcv_of vC_2 hN.1) ⟨Nat.le_of_ble_eq_true rfl, Nat.le_of_ble_eq_true rfl⟩ (Nat.le_of_ble_eq_true rfl) rfl (by decide) (by decide) (rS ?_) nI'
        refine x_top (x' := nI (hw S m i)) (hGN.hwE hm24 (by omega)) ?_
        refine x_if_ne (tgt := 47) dX2_tellMaid_41 (by decide) (fun c2 => ?_) (fun c2 => ?_)
        · have c2 := nN0 c2
          refine x_aload_n dX2_tellMaid_47 0 rfl rfl ?_
          refine x_iload_n dX2_tellMaid_48 2 rfl rfl ?_
          refine x_callV dX2_tellMaid_49 (con_X2_writesNumber (t := t) (n := i) hN hLN (by omega) (by omega)) (lw_V q2189 q2191 qs79 q101 q2192) (np := 1) (by decide +kernel) rfl (rcv_of vC_2 hN.1) ⟨Nat.le_of_ble_eq_true rfl, Nat.le_of_ble_eq_true rfl⟩ (Nat.le_of_ble_eq_true rfl) rfl (by decide) (by decide) (rV fun σ23 h22 => ?_) nV'
          obtain ⟨N25, hAN25, hFN25, hMN25, hLN25⟩ : WL a ad σ M (t ++ numL i) σ23 := WL.tr hFN hMN h22
          have hGQ := hMN25.gr hG
          refine x_aload_n dX2_tellMaid_52 0 rfl rfl ?_
          refine x_aload_n dX2_tellMaid_53 0 rfl rfl ?_
          refine x_iload_n dX2_tellMaid_54 1 rfl rfl ?_
          refine x_iload_n dX2_tellMaid_55 2 rfl rfl ?_
          refine x_callV dX2_tellMaid_56 (con_X2_lock hAN25 (m := m) (s := i) hm24 (by omega)) (lw_V q1977 q1979 qs46 q101 q1980) (np := 2) (by decide +kernel) rfl (rcv_of vC_2 hAN25.1) ⟨Nat.le_of_ble_eq_true rfl, Nat.le_of_ble_eq_true rfl⟩ (Nat.le_of_ble_eq_true rfl) rfl (by decide) (by decide) (rS ?_) nI'
          refine x_top (x' := nI (hw S m i)) (hGQ.hwE hm24 (by omega)) ?_
          refine x_iconst (v := nI 1) dX2_tellMaid_59 (by decide) ?_
          refine x_icmp_ne (tgt := 68) dX2_tellMaid_60 (by decide) (fun c4 => ?_) (fun c4 => ?_)
          · have c4 := nNe (by omega) (by omega) c4
            have hsg : sgL (hw S m i) = 120 := by unfold sgL; exact if_neg c4
            refine x_bipush (v := nI 120) dX2_tellMaid_68 (by decide) ?_
            refine x_callV dX2_tellMaid_70 (con_X2_writes (t := (t ++ numL i)) (c := 120) hAN25 hLN25 (by rw [List.length_append]; omega) (by decide)) (lw_V q2193 q2195 qs80 q101 q2196) (np := 1) (by decide +kernel) rfl (rcv_of vC_2 hAN25.1) ⟨Nat.le_of_ble_eq_true rfl, Nat.le_of_ble_eq_true rfl⟩ (Nat.le_of_ble_eq_true rfl) rfl (by decide) (by decide) (rV fun σ28 h27 => ?_) nV'
            obtain ⟨N30, hAN30, hFN30, hMN30, hLN30⟩ : WL a ad σ M (t ++ numL i ++ [120]) σ28 := WL.tr hFN25 hMN25 h27
            refine x_iinc (i := 2) (q := 2) (v := nI (i + 1)) (L' := [(2, .int (nI (i + 1))), (0, .ref a), (1, .int (nI m))]) dX2_tellMaid_73 rfl (nI_1 _) (by decide) rfl ?_
            refine x_goto (tgt := 29) dX2_tellMaid_76 (by decide) ?_
            refine x_locs (L' := [(0, .ref a), (1, .int (nI m)), (2, .int (nI (i + 1)))]) [1, 2, 0] rfl ?_
            exact ih (i + 1) _ _ (by omega) hAN30 hFN30 hMN30 (by have := hLN30; rw [ht] at this; rw [lockL_s, if_neg c2, hsg]; simpa [List.append_assoc] using this)
          · have c4 := nEq (by omega) (by omega) c4
            have hsg : sgL (hw S m i) = 115 := by unfold sgL; exact if_pos c4
            refine x_bipush (v := nI 115) dX2_tellMaid_63 (by decide) ?_
            refine x_goto (tgt := 70) dX2_tellMaid_65 (by decide) ?_
            refine x_callV dX2_tellMaid_70 (con_X2_writes (t := (t ++ numL i)) (c := 115) hAN25 hLN25 (by rw [List.length_append]; omega) (by decide)) (lw_V q2193 q2195 qs80 q101 q2196) (np := 1) (by decide +kernel) rfl (rcv_of vC_2 hAN25.1) ⟨Nat.le_of_ble_eq_true rfl, Nat.le_of_ble_eq_true rfl⟩ (Nat.le_of_ble_eq_true rfl) rfl (by decide) (by decide) (rV fun σ32 h31 => ?_) nV'
            obtain ⟨N34, hAN34, hFN34, hMN34, hLN34⟩ : WL a ad σ M (t ++ numL i ++ [115]) σ32 := WL.tr hFN25 hMN25 h31
            refine x_iinc (i := 2) (q := 2) (v := nI (i + 1)) (L' := [(2, .int (nI (i + 1))), (0, .ref a), (1, .int (nI m))]) dX2_tellMaid_73 rfl (nI_1 _) (by decide) rfl ?_
            refine x_goto (tgt := 29) dX2_tellMaid_76 (by decide) ?_
            refine x_locs (L' := [(0, .ref a), (1, .int (nI m)), (2, .int (nI (i + 1)))]) [1, 2, 0] rfl ?_
            exact ih (i + 1) _ _ (by omega) hAN34 hFN34 hMN34 (by have := hLN34; rw [ht] at this; rw [lockL_s, if_neg c2, hsg]; simpa [List.append_assoc] using this)
        · have c2 := n0 (by omega) c2
          refine x_goto (tgt := 73) dX2_tellMaid_44 (by decide) ?_
          refine x_iinc (i := 2) (q := 2) (v := nI (i + 1)) (L' := [(2, .int (nI (i + 1))), (0, .ref a), (1, .int (nI m))]) dX2_tellMaid_73 rfl (nI_1 _) (by decide) rfl ?_
          refine x_goto (tgt := 29) dX2_tellMaid_76 (by decide) ?_
          refine x_locs (L' := [(0, .ref a), (1, .int (nI m)), (2, .int (nI (i + 1)))]) [1, 2, 0] rfl ?_
          exact ih (i + 1) τ N (by omega) hN hFN hMN (by rw [lockL_s, if_pos c2, List.append_nil, ← ht]; exact hLN)
    refine x_aload_n dX2_tellMaid_11 0 rfl rfl ?_
    refine x_iconst (v := nI 0) dX2_tellMaid_12 (by decide) ?_
    refine x_put (fs' := mFs ad (mS M 13 (nI 0))) dX2_tellMaid_13 vC_2 in_X2 tyX2_ok nmX2 hM.1 13 (by decide) q1889 rfl rfl (rfl) (rfl) (Nat.le_of_ble_eq_true rfl) rfl (fun σ35 h36 h37 => ?_)
    obtain ⟨hAM38, hBM38⟩ := hM.fld (k := 13) (v := nI 0) h36 h37
    have hL0 : LN (mS M 13 (nI 0)) [] := ⟨Nat.zero_le _, rfl, fun i c h => by cases h⟩
    have hns := numL_len (n := m)
    refine x_aload_n dX2_tellMaid_16 0 rfl rfl ?_
    refine x_iload_n dX2_tellMaid_17 1 rfl rfl ?_
    refine x_callV dX2_tellMaid_18 (con_X2_writesNumber (t := ([])) (n := m) hAM38 hL0 (by decide) (by omega)) (lw_V q2189 q2191 qs79 q101 q2192) (np := 1) (by decide +kernel) rfl (rcv_of vC_2 hAM38.1) ⟨Nat.le_of_ble_eq_true rfl, Nat.le_of_ble_eq_true rfl⟩ (Nat.le_of_ble_eq_true rfl) rfl (by decide) (by decide) (rV fun σ40 h39 => ?_) nV'
    obtain ⟨N42, hAN42, hFN42, hMN42, hLN42⟩ : WL a ad σ M ([] ++ numL m) σ40 := WL.tr (MF.tr MF.rf hBM38) MLn.s13 h39
    refine x_aload_n dX2_tellMaid_21 0 rfl rfl ?_
    refine x_bipush (v := nI 61) dX2_tellMaid_22 (by decide) ?_
    refine x_callV dX2_tellMaid_24 (con_X2_writes (t := ([] ++ numL m)) (c := 61) hAN42 hLN42 (by show (numL m).length < 200; omega) (by decide)) (lw_V q2193 q2195 qs80 q101 q2196) (np := 1) (by decide +kernel) rfl (rcv_of vC_2 hAN42.1) ⟨Nat.le_of_ble_eq_true rfl, Nat.le_of_ble_eq_true rfl⟩ (Nat.le_of_ble_eq_true rfl) rfl (by decide) (by decide) (rV fun σ44 h43 => ?_) nV'
    obtain ⟨N46, hAN46, hFN46, hMN46, hLN46⟩ : WL a ad σ M ([] ++ numL m ++ [61]) σ44 := WL.tr hFN42 hMN42 h43
    refine x_iconst (v := nI 0) dX2_tellMaid_27 (by decide) ?_
    refine x_istore_n (i := 2) (L' := [(2, .int (nI 0)), (0, .ref a), (1, .int (nI m))]) dX2_tellMaid_28 rfl (by decide) rfl ?_
    refine x_locs (L' := [(0, .ref a), (1, .int (nI m)), (2, .int (nI 0))]) [1, 2, 0] rfl ?_
    exact first 8 0 _ _ rfl hAN46 hFN46 hMN46 (by have := hLN46; rw [hbase]; show LN _ (numL m ++ [61] ++ []); rw [List.append_nil]; exact this)
  · have c1 := bI_0 c1
    have hco : qTellM S ln v = (-11, ln) := by unfold qTellM; rw [c1]; rfl
    refine x_bipush (v := (-11)) dX2_tellMaid_8 (by decide) ?_
    exact x_iret dX2_tellMaid_10 rfl (⟨_, rfl, by rw [hco], by rw [hco]; exact WL.rf hM hL⟩)
