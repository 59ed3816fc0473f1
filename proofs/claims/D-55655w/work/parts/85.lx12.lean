set_option maxRecDepth 100000
-- ===== a copy =====
/-- at o a larder all of whose cells are new -/
def CPo (σ : AH) (o : Nat) (T : AS) (τ : AH) : Prop := ∃ ad N mc, LD τ o ad N mc T ∧ (∀ q, FP o ad N q → σ q = none) ∧ RO σ τ
theorem CPo.st {σ τ υ : AH} {o : Nat} {ad : Nat → Nat} {N : Nat → NL} {T' : AS} (hR : RO σ τ) (hQ : ∀ q, FP o ad N q → σ q = none) (hP : PL o ad N τ T' υ) : ∃ N' mc', LD υ o ad N' mc' T' ∧ (∀ q, FP o ad N' q → σ q = none) ∧ RO σ υ := by
  obtain ⟨N', mc', h1, h2, h3⟩ := hP
  refine ⟨N', mc', h1, fun q hq => (h3 q hq).elim (hQ q) (fun z => hR.nn z), fun q e hq => h2.1 q e (hR q e hq) (fun w => ?_)⟩
  rw [hQ q w] at hq
  cases hq
theorem LD.congr {τ : AH} {o : Nat} {ad : Nat → Nat} {N : Nat → NL} {mc : Nat → Int32} {T T' : AS} (h : LD τ o ad N mc T) (h0 : T'.1 = T.1 ∧ tH T' = tH T) (h1 : ∀ m, m < 24 → ∀ t, t < 8 → hw T' m t = hw T m t) (h2 : ∀ s, s < 8 → qu T' s = qu T s) (h3 : ∀ i, i < 5 → ∀ j, j < lLen i → lArr T' i j = lArr T i j) : LD τ o ad N mc T' := by
  refine ⟨?_, h.2.1, fun m hm => ?_, h.al, fun i hi => ?_, fun s hs => ⟨h.ll hs, ?_⟩, h.lj⟩
  · rw [h.1]
    show some (Sum.inr (1, lFs ad T)) = some (Sum.inr (1, lFs ad T'))
    simp only [lFs, nC, nE, h0.1, h0.2]
  · obtain ⟨f, g1, g2⟩ := h.row hm
    exact ⟨f, g1, fun j hj => by rw [h1 m hm j hj]; exact g2 j hj⟩
  · obtain ⟨f, g1, g2⟩ := h.arr hi
    exact ⟨f, g1, fun j hj => by rw [h3 i hi j hj]; exact g2 j hj⟩
  · rw [h2 s hs]; exact h.wr hs
theorem LD.nxz {τ υ : AH} {a z : Nat} {ad : Nat → Nat} {N : Nat → NL} {mc : Nat → Int32} {S : AS} (h : LD τ a ad N mc S) (hzt : ∃ e, τ z = some e ∧ ftg (tag e) = false ∧ tag e ≠ 4) (hu : ∀ r, r ≠ z → υ r = τ r) : LD υ a ad N mc S := by
  obtain ⟨e, g1, g2, g3⟩ := hzt
  exact h.ke (Ke.put hu) (fun q hq e2 => h.not g1 g2 (by rw [← e2]; exact hq)) (fun q e1 hq ht e2 => by
    rw [e2, g1] at hq
    cases hq
    exact g3 ht)
theorem WR.snoc {σ τ : AH} {ns : NL} {r : List Wi} {w : Wi} {q it : Nat} {W : Nat → Prop} (h : WR σ ns r) (hf : Fr W σ τ) (hit : σ it = some (wiE w)) : WR τ (ns ++ [(q, it)]) (r ++ [w]) := by
  refine ⟨by rw [List.length_append, List.length_append, h.1]; rfl, fun i x v hx hv => ?_⟩
  by_cases e : i < ns.length
  · rw [List.getElem?_append_left e] at hx
    rw [List.getElem?_append_left (by rw [← h.1]; exact e)] at hv
    exact hf.2.2 _ _ (h.2 i x v hx hv) rfl
  · rw [List.getElem?_append_right (by omega)] at hx
    rw [List.getElem?_append_right (by rw [← h.1]; omega), ← h.1] at hv
    cases hk : i - ns.length with
    | zero =>
      rw [hk] at hx hv
      cases hx
      cases hv
      exact hf.2.2 _ _ hit rfl
    | succ k => rw [hk] at hx; cases hx
def cpQ (S T : AS) (m s : Nat) : Prop := (T.1 = AS0.1 ∧ tH T = tH AS0) ∧ (∀ t, t < 8 → qu T t = []) ∧ (∀ x, x < m → (∀ t, t < 8 → hw T x t = hw S x t) ∧ lG T x = lG S x ∧ wT T x = wT S x ∧ gT T x = gT S x) ∧ ∀ t, t < s → hw T m t = hw S m t
theorem cpQ.put {S T : AS} {m s : Nat} (h : cpQ S T m s) : cpQ S (sHw T (fset (hw T) m (fset (hw T m) s (hw S m s)))) m (s + 1) := by
  refine ⟨h.1, h.2.1, fun x hx => ⟨fun t ht => ?_, (h.2.2.1 x hx).2⟩, fun t ht => ?_⟩
  · show fset (hw T) m _ x t = _
    rw [fset_n (by omega)]; exact (h.2.2.1 x hx).1 t ht
  · show fset (hw T) m _ m t = _
    rw [fset_s]
    by_cases e : t = s
    · subst e; rw [fset_s]
    · rw [fset_n e]; exact h.2.2.2 t (by omega)
theorem cpQ.row {S T : AS} {m : Nat} (h : cpQ S T m 8) : cpQ S (sGT (sWT (sLG T (fset (lG T) m (lG S m))) (fset (wT T) m (wT S m))) (fset (gT T) m (gT S m))) (m + 1) 0 := by
  refine ⟨h.1, h.2.1, fun x hx => ?_, fun t ht => absurd ht (Nat.not_lt_zero t)⟩
  by_cases e : x = m
  · subst e
    exact ⟨fun t ht => h.2.2.2 t ht, fset_s, fset_s, fset_s⟩
  · have h3 := h.2.2.1 x (by omega)
    exact ⟨h3.1, (fset_n e).trans h3.2.1, (fset_n e).trans h3.2.2.1, (fset_n e).trans h3.2.2.2⟩
def cpR (S T : AS) (s : Nat) (r : List Wi) : Prop := (T.1 = AS0.1 ∧ tH T = tH AS0) ∧ (∀ x, x < 24 → (∀ t, t < 8 → hw T x t = hw S x t) ∧ lG T x = lG S x ∧ wT T x = wT S x ∧ gT T x = gT S x) ∧ (∀ t, t < 8 → qu T t = if t < s then qu S t else if t = s then r else []) ∧ ∀ t, t < s → gN T t = gN S t ∧ lQ T t = lQ S t
theorem cpQ.toR {S T : AS} (h : cpQ S T 24 0) : cpR S T 0 [] := ⟨h.1, h.2.2.1, fun t ht => by rw [if_neg (Nat.not_lt_zero t), h.2.1 t ht]; split <;> rfl, fun t ht => absurd ht (Nat.not_lt_zero t)⟩
theorem cpR.q {S T : AS} {s : Nat} {r : List Wi} (h : cpR S T s r) (hs : s < 8) : qu T s = r := by rw [h.2.2.1 s hs, if_neg (Nat.lt_irrefl s), if_pos rfl]
theorem cpR.add {S T : AS} {s : Nat} {r r' : List Wi} (h : cpR S T s r) : cpR S (sRow T s r') s r' := ⟨h.1, h.2.1, fun t ht => by
  rw [sRow_q]
  by_cases e : t = s
  · subst e; rw [if_pos rfl, if_neg (Nat.lt_irrefl t), if_pos rfl]
  · rw [if_neg e, h.2.2.1 t ht, if_neg e, if_neg e], h.2.2.2⟩
theorem cpR.next {S T : AS} {s : Nat} (h : cpR S T s (qu S s)) : cpR S (sLN (sGN T (fset (gN T) s (gN S s))) (fset (lQ T) s (lQ S s))) (s + 1) [] := by
  refine ⟨h.1, h.2.1, fun t ht => ?_, fun t ht => ?_⟩
  · show qu T t = _
    rw [h.2.2.1 t ht]
    by_cases e : t < s
    · rw [if_pos e, if_pos (by omega)]
    · by_cases e2 : t = s
      · subst e2; rw [if_neg e, if_pos rfl, if_pos (by omega)]
      · rw [if_neg e, if_neg e2, if_neg (by omega)]; split <;> rfl
  · by_cases e : t = s
    · subst e; exact ⟨fset_s, fset_s⟩
    · have h3 := h.2.2.2 t (by omega)
      exact ⟨(fset_n e).trans h3.1, (fset_n e).trans h3.2⟩
theorem cpR.fin {τ : AH} {o : Nat} {ad : Nat → Nat} {N : Nat → NL} {mc : Nat → Int32} {S T : AS} (h : cpR S T 8 []) (hL : LD τ o ad N mc T) : LD τ o ad N mc (T.1, T.2.1, S.2.2) := by
  refine hL.congr ⟨rfl, rfl⟩ (fun m hm t ht => ((h.2.1 m hm).1 t ht).symm) (fun s hs => ?_) (fun i hi j hj => ?_)
  · show qu S s = qu T s
    rw [h.2.2.1 s hs, if_pos hs]
  · match i, hi, hj with
    | 0, _, hj => exact (h.2.1 j hj).2.1.symm
    | 1, _, hj => exact (h.2.1 j hj).2.2.1.symm
    | 2, _, hj => exact (h.2.1 j hj).2.2.2.symm
    | 3, _, hj => exact (h.2.2.2 j hj).1.symm
    | 4, _, hj => exact (h.2.2.2 j hj).2.symm
set_option maxHeartbeats 4000000 in
set_option maxRecDepth 100000 in
theorem con_X1_copy {l : Launch} {G : YG} {σ : AH} {a : Nat} {ad : Nat → Nat} {N : Nat → NL} {mc : Nat → Int32} {S : AS}  (hL : LD σ a ad N mc S) (hI : IV S) : Con l yX1_copy cX1_copy 5 (some (FieldType.object "LarderLocks$Larder")) G 7 (49 + nW S) (397 + 3 * nW S) [.ref a] σ (PA fun o τ => CPo σ o S τ) := by
  refine con_of (by decide) (Nat.le_of_ble_eq_true rfl) ?_
  refine x_locs (L' := [(0, .ref a)]) [0] rfl ?_
  have ho := hL.o
  have hL0 := hL
  have hC := hI.c
  have hlen : ∀ s, s < 8 → (qu S s).length ≤ 8 := fun s hs => hI.len hs
  obtain ⟨F, hF⟩ : ∃ F : Nat → Nat, F = fun s => (qu S s).length := ⟨_, rfl⟩
  have hFs : ∀ s, F s = (qu S s).length := fun s => by rw [hF]
  have hnW : nW S = su F 0 8 := by
    have := su_sm (c := F) 8 0
    have e0 : sm F 0 = 0 := rfl
    rw [e0, Nat.add_zero, Nat.zero_add] at this
    rw [this, hF]; rfl
  refine x_new (fs := [.null, .null, .null, .null, .null, .null, .null, .int 0, .int 0, .int 0]) dX1_copy_0 vC_1 in_X1 tyX1_ok q405 q140 q86 rfl (by omega) (by omega) (fun o σ1 hn2 hb3 hc4 hu5 => ?_)
  have n_a_o : a ≠ o := cell_nn hn2 ho
  have ho := ro_new hn2 hu5 _ _ ho
  refine x_dup dX1_copy_3 rfl ?_
  refine x_callI dX1_copy_4 (con_X1_init hc4) (lw_meth q143) q86 q406 q142 rfl (np := 0) (by decide +kernel) rfl ⟨Nat.le_of_ble_eq_true rfl, Nat.le_of_ble_eq_true rfl⟩ (Nat.le_of_ble_eq_true rfl) rfl (by omega) (by omega) (rV fun σ6 h1 => ?_) nV'
  obtain ⟨ad2, N0, mc0, hO, hFo, hQo⟩ := h1
  have hR : RO σ σ6 := fun q e hq => hFo.1 q e (ro_new hn2 hu5 q e hq) (fun z => by rw [z, hn2] at hq; cases hq)
  have hQ : ∀ q, FP o ad2 N0 q → σ q = none := fun q hq => (hQo q hq).elim (fun z => by rw [z]; exact hn2) (fun z => (ro_new hn2 hu5).nn z)
  have hT0 : cpQ S AS0 0 0 := ⟨⟨rfl, rfl⟩, fun _ _ => rfl, fun x hx => absurd hx (Nat.not_lt_zero x), fun t ht => absurd ht (Nat.not_lt_zero t)⟩
  refine x_astore_n (i := 1) (L' := [(1, .ref o), (0, .ref a)]) dX1_copy_7 rfl (by decide) rfl ?_
  refine x_iconst (v := nI 0) dX1_copy_8 (by decide) ?_
  refine x_istore_n (i := 2) (L' := [(2, .int (nI 0)), (1, .ref o), (0, .ref a)]) dX1_copy_9 rfl (by decide) rfl ?_
  refine x_locs (L' := [(0, .ref a), (1, .ref o), (2, .int (nI 0))]) [2, 1, 0] rfl ?_
  have hoff : ∀ (e s : Nat) (τ : AH) (T : AS) (N2 : Nat → NL) (mc2 : Nat → Int32) (k n : Nat), s + e = 8 → RO σ τ → LD τ o ad2 N2 mc2 T → (∀ q, FP o ad2 N2 q → σ q = none) → cpR S T s [] → su F s e + e ≤ k → 3 * su F s e + 5 * e ≤ n → X l yX1_copy cX1_copy 5 (some (FieldType.object "LarderLocks$Larder")) [] G (yroom 7 (49 + nW S) (397 + 3 * nW S)) (yEnd G (yroom 7 (49 + nW S) (397 + 3 * nW S)) (PA fun o τ => CPo σ o S τ)) 90 [(0, .ref a), (1, .ref o), (2, .int (nI s))] [] τ k n := by
    intro e
    induction e with
    | zero =>
      intro s τ T N2 mc2 k n hse hR hO hQ hT hk0 hn0
      have hs8 : s = 8 := by omega
      subst hs8
      have hL := hL0.ro hR
      have ho := hL.o
      have hO2 := hT.fin hO
      have hoO := hO.o
      have n_a_o2 : a ≠ o := fun e => by rw [e] at ho; have := hQ o (Or.inl rfl); have h9 := hL0.o; rw [e, this] at h9; cases h9
      refine x_iload_n dX1_copy_90 2 rfl rfl ?_
      refine x_bipush (v := nI 8) dX1_copy_91 (by decide) ?_
      refine x_icmp_ge (tgt := 180) dX1_copy_93 (by decide) (fun _ => ?_) (fun h_ => absurd (by decide) h_)
      refine x_aload_n dX1_copy_180 1 rfl rfl ?_
      refine x_aload_n dX1_copy_181 0 rfl rfl ?_
      refine x_get dX1_copy_182 vC_1 in_X1 ho 7 (by decide) q289 rfl ?_
      refine x_put (fs' := [.ref (ad2 0), .ref (ad2 1), .ref (ad2 2), .ref (ad2 3), .ref (ad2 4), .ref (ad2 5), .ref (ad2 6), .int (encB (tH S)), .int (nI (nC T)), .int (nI (nE T))]) dX1_copy_185 vC_1 in_X1 tyX1_ok nmX1 hoO 7 (by decide) q289 rfl rfl (rfl) (rfl) (Nat.le_of_ble_eq_true rfl) rfl (fun σ8 hc10 hu9 => ?_)
      have ho := at_put hu9 ho n_a_o2
      refine x_aload_n dX1_copy_188 1 rfl rfl ?_
      refine x_aload_n dX1_copy_189 0 rfl rfl ?_
      refine x_get dX1_copy_190 vC_1 in_X1 ho 8 (by decide) q290 rfl ?_
      refine x_put (fs' := [.ref (ad2 0), .ref (ad2 1), .ref (ad2 2), .ref (ad2 3), .ref (ad2 4), .ref (ad2 5), .ref (ad2 6), .int (encB (tH S)), .int (nI (nC S)), .int (nI (nE T))]) dX1_copy_193 vC_1 in_X1 tyX1_ok nmX1 hc10 8 (by decide) q290 rfl rfl (rfl) (rfl) (Nat.le_of_ble_eq_true rfl) rfl (fun σ11 hc13 hu12 => ?_)
      have ho := at_put hu12 ho n_a_o2
      refine x_aload_n dX1_copy_196 1 rfl rfl ?_
      refine x_aload_n dX1_copy_197 0 rfl rfl ?_
      refine x_get dX1_copy_198 vC_1 in_X1 ho 9 (by decide) q292 rfl ?_
      refine x_put (fs' := [.ref (ad2 0), .ref (ad2 1), .ref (ad2 2), .ref (ad2 3), .ref (ad2 4), .ref (ad2 5), .ref (ad2 6), .int (encB (tH S)), .int (nI (nC S)), .int (nI (nE S))]) dX1_copy_201 vC_1 in_X1 tyX1_ok nmX1 hc13 9 (by decide) q292 rfl rfl (rfl) (rfl) (Nat.le_of_ble_eq_true rfl) rfl (fun σ14 hc16 hu15 => ?_)
      have ho := at_put hu15 ho n_a_o2
      refine x_aload_n dX1_copy_204 1 rfl rfl ?_
      obtain ⟨N3, mc3, hO3, hQ3, hR3⟩ := CPo.st (T' := S) hR hQ (PL.obj hO2 hc16 (fun q hq => (hu15 q hq).trans ((hu12 q hq).trans (hu9 q hq))) rfl rfl (fun i hi => rfl))
      exact x_aret dX1_copy_205 rfl (by first | exact Or.inl ⟨_, rfl⟩ | exact Or.inr ⟨_, rfl⟩) (Or.inr ⟨_, rfl⟩) (⟨_, rfl, ad2, N3, mc3, hO3, hQ3, hR3⟩)
    | succ e ihe =>
      intro s τ T N2 mc2 k n hse hR hO hQ hT hk0 hn0
      have hs : s < 8 := by omega
      have hL := hL0.ro hR
      have ho := hL.o
      have hoO := hO.o
      have hk1 : F s + su F (s + 1) e + (e + 1) ≤ k := hk0
      have hn1 : 3 * (F s + su F (s + 1) e) + 5 * (e + 1) ≤ n := hn0
      have hFss := hFs s
      have hT0 : cpR S T s ((qu S s).take 0) := hT
      refine x_iload_n dX1_copy_90 2 rfl rfl ?_
      refine x_bipush (v := nI 8) dX1_copy_91 (by decide) ?_
      refine x_icmp_ge (tgt := 180) dX1_copy_93 (by decide) (fun h_ => absurd h_ (fun h => absurd (nLe (by omega) (by omega) h) (by omega))) (fun _ => ?_)
      refine x_aload_n dX1_copy_96 0 rfl rfl ?_
      refine x_get dX1_copy_97 vC_1 in_X1 ho 1 (by decide) q279 rfl ?_
      refine x_iload_n dX1_copy_100 2 rfl rfl ?_
      refine x_callV dX1_copy_101 (con_J2_get hL.al (lYs_at hs)) (lw_V q407 q408 q409 q89 q410) (np := 1) (by decide +kernel) rfl hL.al.rc ⟨Nat.le_of_ble_eq_true rfl, Nat.le_of_ble_eq_true rfl⟩ (Nat.le_of_ble_eq_true rfl) rfl (Nat.zero_le _) (Nat.zero_le _) (rSA ?_) nA'
      refine x_ckcast dX1_copy_104 q183 (hL.ll hs).rc ?_
      refine x_callU dX1_copy_107 (con_J3_iterator (hL.ll hs)) (lw_U q421 q422 q424 q425 q90 q426) rfl (np := 0) (by decide +kernel) rfl (hL.ll hs).rc ⟨Nat.le_of_ble_eq_true rfl, Nat.le_of_ble_eq_true rfl⟩ (Nat.le_of_ble_eq_true rfl) rfl (by omega) (by omega) (rA fun z σ18 hi17 => ?_) nA'
      obtain ⟨zn, zI, zR⟩ := hi17
      have hL := hL.ro (zR)
      have ho := hL.o
      have zn : σ z = none := hR.nn zn
      have hO := hO.ro zR
      have hR := hR.tr zR
      refine x_astore_n (i := 3) (L' := [(3, .ref z), (0, .ref a), (1, .ref o), (2, .int (nI s))]) dX1_copy_110 rfl (by decide) rfl ?_
      refine x_locs (L' := [(0, .ref a), (1, .ref o), (2, .int (nI s)), (3, .ref z)]) [1, 2, 3, 0] rfl ?_
      suffices loop : ∀ (d j : Nat) (τ : AH) (la : Option Nat) (k n : Nat) (T : AS) (N2 : Nat → NL) (mc2 : Nat → Int32), j + d = (qu S s).length → RO σ τ → LI τ z (ad (10 + s)) (mc s) (N s) j la → d + (su F (s + 1) e + e) ≤ k → 3 * d + (3 * su F (s + 1) e + 5 * e) ≤ n → LD τ o ad2 N2 mc2 T → (∀ q, FP o ad2 N2 q → σ q = none) → cpR S T s ((qu S s).take j) → X l yX1_copy cX1_copy 5 (some (FieldType.object "LarderLocks$Larder")) [] G (yroom 7 (49 + nW S) (397 + 3 * nW S)) (yEnd G (yroom 7 (49 + nW S) (397 + 3 * nW S)) (PA fun o τ => CPo σ o S τ)) 111 [(0, .ref a), (1, .ref o), (2, .int (nI s)), (3, .ref z)] [] τ k n from loop _ 0 _ none _ _ T N2 mc2 (Nat.zero_add _) (hR) zI  (by omega) (by omega) hO hQ hT0
      intro d
      induction d with
      | zero =>
        intro j τ la k n T N2 mc2 hj hR hz hk0 hn0 hO hQ hT
        have hL := hL0.ro hR
        have ho := hL.o
        have hjl : j = (qu S s).length := by omega
        have hNl := (hL.wr hs).1
        refine x_aload_n dX1_copy_111 3 rfl rfl ?_
        refine x_callF dX1_copy_112 (con_J18_hasNext (hL.ll hs) hz (by omega)) (lw_F q509 q549 q551 q108 q553) q511 q510 q552 q550 q548 (np := 0) (by decide +kernel) rfl vC_13 hz ⟨Nat.le_of_ble_eq_true rfl, Nat.le_of_ble_eq_true rfl⟩ (Nat.le_of_ble_eq_true rfl) rfl (Nat.zero_le _) (Nat.zero_le _) (rS ?_) nI'
        refine x_top (x' := 0) (by rw [decide_eq_false (by omega)]; rfl) ?_
        refine x_if_eq (tgt := 150) dX1_copy_117 (by decide) (fun _ => ?_) (fun h_ => absurd (rfl) h_)
        have hT : cpR S T s (qu S s) := by rw [hjl, List.take_of_length_le (Nat.le_refl _)] at hT; exact hT
        have hoO := hO.o
        refine x_aload_n dX1_copy_150 1 rfl rfl ?_
        refine x_get dX1_copy_151 vC_1 in_X1 hoO 5 (by decide) q286 rfl ?_
        refine x_iload_n dX1_copy_154 2 rfl rfl ?_
        refine x_aload_n dX1_copy_155 0 rfl rfl ?_
        refine x_get dX1_copy_156 vC_1 in_X1 ho 5 (by decide) q286 rfl ?_
        refine x_iload_n dX1_copy_159 2 rfl rfl ?_
        obtain ⟨fa20, ha21, hv22⟩ := hL.arr (i := 3) (by decide)
        refine x_iald (N := 8) (j := s) (v := nI (gN S s)) dX1_copy_160 ha21 rfl (hs) (by decide) (hv22 _ (hs)) ?_
        obtain ⟨fa23, ha24, hv25⟩ := hO.arr (i := 3) (by decide)
        refine x_iast (N := 8) (j := s) (w := nI (gN S s)) dX1_copy_161 ha24 rfl (hs) (by decide) (fun σ26 h27 h28 => ?_)
        obtain ⟨N29, mc30, hO, hQ, hR⟩ := CPo.st (T' := (sGN T (fset (gN T) s (gN S s)))) hR hQ (PL.arr hO (i := 3) (by decide) h27 h28 (fun j hj => updF hv25 hj) rfl ⟨rfl, rfl⟩ rfl (fun i' hi' hn => match i', hi', hn with | 0, _, hn => (by first | rfl | exact absurd rfl hn) | 1, _, hn => (by first | rfl | exact absurd rfl hn) | 2, _, hn => (by first | rfl | exact absurd rfl hn) | 3, _, hn => (by first | rfl | exact absurd rfl hn) | 4, _, hn => (by first | rfl | exact absurd rfl hn)))
        have hoO := hO.o
        have hL := hL0.ro hR
        have ho := hL.o
        refine x_aload_n dX1_copy_162 1 rfl rfl ?_
        refine x_get dX1_copy_163 vC_1 in_X1 hoO 6 (by decide) q288 rfl ?_
        refine x_iload_n dX1_copy_166 2 rfl rfl ?_
        refine x_aload_n dX1_copy_167 0 rfl rfl ?_
        refine x_get dX1_copy_168 vC_1 in_X1 ho 6 (by decide) q288 rfl ?_
        refine x_iload_n dX1_copy_171 2 rfl rfl ?_
        obtain ⟨fa31, ha32, hv33⟩ := hL.arr (i := 4) (by decide)
        refine x_iald (N := 8) (j := s) (v := nI (lQ S s)) dX1_copy_172 ha32 rfl (hs) (by decide) (hv33 _ (hs)) ?_
        obtain ⟨fa34, ha35, hv36⟩ := hO.arr (i := 4) (by decide)
        refine x_iast (N := 8) (j := s) (w := nI (lQ S s)) dX1_copy_173 ha35 rfl (hs) (by decide) (fun σ37 h38 h39 => ?_)
        obtain ⟨N40, mc41, hO, hQ, hR⟩ := CPo.st (T' := (sLN (sGN T (fset (gN T) s (gN S s))) (fset (lQ T) s (lQ S s)))) hR hQ (PL.arr hO (i := 4) (by decide) h38 h39 (fun j hj => updF hv36 hj) rfl ⟨rfl, rfl⟩ rfl (fun i' hi' hn => match i', hi', hn with | 0, _, hn => (by first | rfl | exact absurd rfl hn) | 1, _, hn => (by first | rfl | exact absurd rfl hn) | 2, _, hn => (by first | rfl | exact absurd rfl hn) | 3, _, hn => (by first | rfl | exact absurd rfl hn) | 4, _, hn => (by first | rfl | exact absurd rfl hn)))
        have hoO := hO.o
        have hL := hL0.ro hR
        have ho := hL.o
        refine x_iinc (i := 2) (q := 2) (v := nI (s + 1)) (L' := [(2, .int (nI (s + 1))), (0, .ref a), (1, .ref o), (3, .ref z)]) dX1_copy_174 rfl (nI_1 _) (by decide) rfl ?_
        refine x_goto (tgt := 90) dX1_copy_177 (by decide) ?_
        refine x_locs (L' := [(0, .ref a), (1, .ref o), (2, .int (nI (s + 1)))]) [1, 2, 0] rfl ?_
        exact ihe (s + 1) _ _ _ _ _ _ (by omega) hR hO hQ hT.next (by omega) (by omega)
      | succ d ih =>
        intro j τ la k n T N2 mc2 hj hR hz hk0 hn0 hO hQ hT
        have hL := hL0.ro hR
        have ho := hL.o
        have hNl := (hL.wr hs).1
        obtain ⟨x, hx⟩ : ∃ x, (N s)[j]? = some x := ⟨_, List.getElem?_eq_getElem (by omega)⟩
        obtain ⟨wv, hwv⟩ : ∃ wv, (qu S s)[j]? = some wv := ⟨_, List.getElem?_eq_getElem (by omega)⟩
        have hwc := (hL.wr hs).2 j x wv hx hwv
        have hwi := hI.w hs (List.mem_of_getElem? hwv)
        have hwC := hI.th hwi.1
        have hC := hI.c
        refine x_aload_n dX1_copy_111 3 rfl rfl ?_
        refine x_callF dX1_copy_112 (con_J18_hasNext (hL.ll hs) hz (by omega)) (lw_F q509 q549 q551 q108 q553) q511 q510 q552 q550 q548 (np := 0) (by decide +kernel) rfl vC_13 hz ⟨Nat.le_of_ble_eq_true rfl, Nat.le_of_ble_eq_true rfl⟩ (Nat.le_of_ble_eq_true rfl) rfl (Nat.zero_le _) (Nat.zero_le _) (rS ?_) nI'
        refine x_top (x' := 1) (by rw [decide_eq_true (by omega)]; rfl) ?_
        refine x_if_eq (tgt := 150) dX1_copy_117 (by decide) (fun h_ => absurd h_ (by decide)) (fun _ => ?_)
        refine x_aload_n dX1_copy_120 3 rfl rfl ?_
        have hzO := hz
        refine x_callF dX1_copy_121 (con_J18_next (hL.ll hs) hz hx) (lw_F q555 q905 q907 q108 q909) q557 q556 q908 q906 q548 (np := 0) (by decide +kernel) rfl vC_13 hz ⟨Nat.le_of_ble_eq_true rfl, Nat.le_of_ble_eq_true rfl⟩ (Nat.le_of_ble_eq_true rfl) rfl (Nat.zero_le _) (Nat.zero_le _) (rA fun u σ44 h43 => ?_) nA'
        obtain ⟨rfl, hz, zU⟩ := h43
        have hR := hR.nx zn zU
        have hL := hL0.ro hR
        have ho := hL.o
        have hwc := (hL.wr hs).2 j x wv hx hwv
        refine x_ckcast dX1_copy_126 q915 (rcv_of vC_4 hwc) ?_
        have hO := hO.nxz ⟨_, hzO, rfl, Nat.ne_of_beq_eq_false rfl⟩ zU
        have hoO := hO.o
        refine x_astore (i := 4) (L' := [(4, .ref x.2), (0, .ref a), (1, .ref o), (2, .int (nI s)), (3, .ref z)]) dX1_copy_129 (by decide) rfl ?_
        refine x_aload_n dX1_copy_131 2 rfl rfl ?_
        refine x_get dX1_copy_132 vC_1 in_X1 hoO 1 (by decide) q279 rfl ?_
        refine x_iload_n dX1_copy_135 3 rfl rfl ?_
        refine x_callV dX1_copy_136 (con_J2_get hO.al (lYs_at hs)) (lw_V q407 q408 q409 q89 q410) (np := 1) (by decide +kernel) rfl hO.al.rc ⟨Nat.le_of_ble_eq_true rfl, Nat.le_of_ble_eq_true rfl⟩ (Nat.le_of_ble_eq_true rfl) rfl (Nat.zero_le _) (Nat.zero_le _) (rSA ?_) nA'
        refine x_ckcast dX1_copy_139 q183 (hO.ll hs).rc ?_
        refine x_aload dX1_copy_142 0 rfl ?_
        refine x_callV dX1_copy_144 (con_J4_addLast (hO.ll hs) (it := x.2) (by have := hO.len hs; rw [hT.q hs, List.length_take] at this; have := hlen s hs; omega)) (lw_V q916 q917 q918 q91 q919) (np := 1) (by decide +kernel) rfl (hO.ll hs).rc ⟨Nat.le_of_ble_eq_true rfl, Nat.le_of_ble_eq_true rfl⟩ (Nat.le_of_ble_eq_true rfl) rfl (by omega) (by omega) (rV fun σ45 h5 => ?_) nV'
        obtain ⟨qn, hqn, k1, k2⟩ := h5
        have hz := k2.1 _ _ hz ((hO.ll hs).other hz ⟨rfl, rfl⟩)
        obtain ⟨N47, mc48, hO, hQ, hR⟩ := CPo.st (T' := (sRow T s (qu T s ++ [wv]))) hR hQ (PL.list hO hs k1 k2 (fun y hy => (List.mem_append.mp hy).elim (fun h => Or.inl ⟨y, h, rfl⟩) (fun h => Or.inr (by rw [List.mem_singleton.mp h]; exact hqn))) (WR.snoc (hO.wr hs) k2 hwc))
        have hoO := hO.o
        have hL := hL0.ro hR
        have ho := hL.o
        have hT2 : cpR S (sRow T s (qu T s ++ [wv])) s ((qu S s).take (j + 1)) := by
          have e : (qu S s).take (j + 1) = qu T s ++ [wv] := by rw [hT.q hs, List.take_add_one, hwv]; rfl
          rw [e]; exact hT.add
        refine x_goto (tgt := 111) dX1_copy_147 (by decide) ?_
        refine x_locs (L' := [(0, .ref a), (1, .ref o), (2, .int (nI s)), (3, .ref z)]) [1, 2, 3, 4] rfl ?_
        exact ih (j + 1) _ _ _ _ _ _ _ (by omega) hR hz (by omega) (by omega) hO hQ hT2
  suffices loop : ∀ (d m : Nat) (τ : AH) (T : AS) (N2 : Nat → NL) (mc2 : Nat → Int32) (k n : Nat), m + d = 24 → RO σ τ → LD τ o ad2 N2 mc2 T → (∀ q, FP o ad2 N2 q → σ q = none) → cpQ S T m 0 → su F 0 8 + 8 ≤ k → 3 * su F 0 8 + 40 ≤ n → X l yX1_copy cX1_copy 5 (some (FieldType.object "LarderLocks$Larder")) [] G (yroom 7 (49 + nW S) (397 + 3 * nW S)) (yEnd G (yroom 7 (49 + nW S) (397 + 3 * nW S)) (PA fun o τ => CPo σ o S τ)) 10 [(0, .ref a), (1, .ref o), (2, .int (nI m))] [] τ k n from loop 24 0 _ AS0 N0 mc0 _ _ rfl hR hO hQ hT0 (by omega) (by omega)
  intro d
  induction d with
  | zero =>
    intro m τ T N2 mc2 k n hmd hR hO hQ hT hk0 hn0
    have hm24 : m = 24 := by omega
    subst hm24
    refine x_iload_n dX1_copy_10 2 rfl rfl ?_
    refine x_bipush (v := nI 24) dX1_copy_11 (by decide) ?_
    refine x_icmp_ge (tgt := 88) dX1_copy_13 (by decide) (fun _ => ?_) (fun h_ => absurd (by decide) h_)
    refine x_iconst (v := nI 0) dX1_copy_88 (by decide) ?_
    refine x_istore_n (i := 2) (L' := [(2, .int (nI 0)), (0, .ref a), (1, .ref o)]) dX1_copy_89 rfl (by decide) rfl ?_
    refine x_locs (L' := [(0, .ref a), (1, .ref o), (2, .int (nI 0))]) [1, 2, 0] rfl ?_
    exact hoff 8 0 τ T N2 mc2 k n rfl hR hO hQ hT.toR hk0 hn0
  | succ d ih =>
    intro m τ T N2 mc2 k n hmd hR hO hQ hT hk0 hn0
    have hm : m < 24 := by omega
    refine x_iload_n dX1_copy_10 2 rfl rfl ?_
    refine x_bipush (v := nI 24) dX1_copy_11 (by decide) ?_
    refine x_icmp_ge (tgt := 88) dX1_copy_13 (by decide) (fun h_ => absurd h_ (fun h => absurd (nLe (by omega) (by omega) h) (by omega))) (fun _ => ?_)
    refine x_iconst (v := nI 0) dX1_copy_16 (by decide) ?_
    refine x_istore_n (i := 3) (L' := [(3, .int (nI 0)), (0, .ref a), (1, .ref o), (2, .int (nI m))]) dX1_copy_17 rfl (by decide) rfl ?_
    refine x_locs (L' := [(0, .ref a), (1, .ref o), (2, .int (nI m)), (3, .int (nI 0))]) [1, 2, 3, 0] rfl ?_
    suffices inner : ∀ (e s : Nat) (τ : AH) (T : AS) (N2 : Nat → NL) (mc2 : Nat → Int32), s + e = 8 → RO σ τ → LD τ o ad2 N2 mc2 T → (∀ q, FP o ad2 N2 q → σ q = none) → cpQ S T m s → X l yX1_copy cX1_copy 5 (some (FieldType.object "LarderLocks$Larder")) [] G (yroom 7 (49 + nW S) (397 + 3 * nW S)) (yEnd G (yroom 7 (49 + nW S) (397 + 3 * nW S)) (PA fun o τ => CPo σ o S τ)) 18 [(0, .ref a), (1, .ref o), (2, .int (nI m)), (3, .int (nI s))] [] τ k n from inner 8 0 τ T N2 mc2 rfl hR hO hQ hT
    intro e
    induction e with
    | zero =>
      intro s τ T N2 mc2 hse hR hO hQ hT
      have hs8 : s = 8 := by omega
      subst hs8
      have hL := hL0.ro hR
      have ho := hL.o
      have hoO := hO.o
      refine x_iload_n dX1_copy_18 3 rfl rfl ?_
      refine x_bipush (v := nI 8) dX1_copy_19 (by decide) ?_
      refine x_icmp_ge (tgt := 46) dX1_copy_21 (by decide) (fun _ => ?_) (fun h_ => absurd (by decide) h_)
      refine x_aload_n dX1_copy_46 1 rfl rfl ?_
      refine x_get dX1_copy_47 vC_1 in_X1 hoO 2 (by decide) q281 rfl ?_
      refine x_iload_n dX1_copy_50 2 rfl rfl ?_
      refine x_aload_n dX1_copy_51 0 rfl rfl ?_
      refine x_get dX1_copy_52 vC_1 in_X1 ho 2 (by decide) q281 rfl ?_
      refine x_iload_n dX1_copy_55 2 rfl rfl ?_
      obtain ⟨fa49, ha50, hv51⟩ := hL.arr (i := 0) (by decide)
      refine x_iald (N := 24) (j := m) (v := nI (lG S m)) dX1_copy_56 ha50 rfl (hm) (by decide) (hv51 _ (hm)) ?_
      obtain ⟨fa52, ha53, hv54⟩ := hO.arr (i := 0) (by decide)
      refine x_iast (N := 24) (j := m) (w := nI (lG S m)) dX1_copy_57 ha53 rfl (hm) (by decide) (fun σ55 h56 h57 => ?_)
      obtain ⟨N58, mc59, hO, hQ, hR⟩ := CPo.st (T' := (sLG T (fset (lG T) m (lG S m)))) hR hQ (PL.arr hO (i := 0) (by decide) h56 h57 (fun j hj => updF hv54 hj) rfl ⟨rfl, rfl⟩ rfl (fun i' hi' hn => match i', hi', hn with | 0, _, hn => (by first | rfl | exact absurd rfl hn) | 1, _, hn => (by first | rfl | exact absurd rfl hn) | 2, _, hn => (by first | rfl | exact absurd rfl hn) | 3, _, hn => (by first | rfl | exact absurd rfl hn) | 4, _, hn => (by first | rfl | exact absurd rfl hn)))
      have hoO := hO.o
      have hL := hL0.ro hR
      have ho := hL.o
      refine x_aload_n dX1_copy_58 1 rfl rfl ?_
      refine x_get dX1_copy_59 vC_1 in_X1 hoO 3 (by decide) q283 rfl ?_
      refine x_iload_n dX1_copy_62 2 rfl rfl ?_
      refine x_aload_n dX1_copy_63 0 rfl rfl ?_
      refine x_get dX1_copy_64 vC_1 in_X1 ho 3 (by decide) q283 rfl ?_
      refine x_iload_n dX1_copy_67 2 rfl rfl ?_
      obtain ⟨fa60, ha61, hv62⟩ := hL.arr (i := 1) (by decide)
      refine x_iald (N := 24) (j := m) (v := nI (wT S m)) dX1_copy_68 ha61 rfl (hm) (by decide) (hv62 _ (hm)) ?_
      obtain ⟨fa63, ha64, hv65⟩ := hO.arr (i := 1) (by decide)
      refine x_iast (N := 24) (j := m) (w := nI (wT S m)) dX1_copy_69 ha64 rfl (hm) (by decide) (fun σ66 h67 h68 => ?_)
      obtain ⟨N69, mc70, hO, hQ, hR⟩ := CPo.st (T' := (sWT (sLG T (fset (lG T) m (lG S m))) (fset (wT T) m (wT S m)))) hR hQ (PL.arr hO (i := 1) (by decide) h67 h68 (fun j hj => updF hv65 hj) rfl ⟨rfl, rfl⟩ rfl (fun i' hi' hn => match i', hi', hn with | 0, _, hn => (by first | rfl | exact absurd rfl hn) | 1, _, hn => (by first | rfl | exact absurd rfl hn) | 2, _, hn => (by first | rfl | exact absurd rfl hn) | 3, _, hn => (by first | rfl | exact absurd rfl hn) | 4, _, hn => (by first | rfl | exact absurd rfl hn)))
      have hoO := hO.o
      have hL := hL0.ro hR
      have ho := hL.o
      refine x_aload_n dX1_copy_70 1 rfl rfl ?_
      refine x_get dX1_copy_71 vC_1 in_X1 hoO 4 (by decide) q285 rfl ?_
      refine x_iload_n dX1_copy_74 2 rfl rfl ?_
      refine x_aload_n dX1_copy_75 0 rfl rfl ?_
      refine x_get dX1_copy_76 vC_1 in_X1 ho 4 (by decide) q285 rfl ?_
      refine x_iload_n dX1_copy_79 2 rfl rfl ?_
      obtain ⟨fa71, ha72, hv73⟩ := hL.arr (i := 2) (by decide)
      refine x_iald (N := 24) (j := m) (v := nI (gT S m)) dX1_copy_80 ha72 rfl (hm) (by decide) (hv73 _ (hm)) ?_
      obtain ⟨fa74, ha75, hv76⟩ := hO.arr (i := 2) (by decide)
      refine x_iast (N := 24) (j := m) (w := nI (gT S m)) dX1_copy_81 ha75 rfl (hm) (by decide) (fun σ77 h78 h79 => ?_)
      obtain ⟨N80, mc81, hO, hQ, hR⟩ := CPo.st (T' := (sGT (sWT (sLG T (fset (lG T) m (lG S m))) (fset (wT T) m (wT S m))) (fset (gT T) m (gT S m)))) hR hQ (PL.arr hO (i := 2) (by decide) h78 h79 (fun j hj => updF hv76 hj) rfl ⟨rfl, rfl⟩ rfl (fun i' hi' hn => match i', hi', hn with | 0, _, hn => (by first | rfl | exact absurd rfl hn) | 1, _, hn => (by first | rfl | exact absurd rfl hn) | 2, _, hn => (by first | rfl | exact absurd rfl hn) | 3, _, hn => (by first | rfl | exact absurd rfl hn) | 4, _, hn => (by first | rfl | exact absurd rfl hn)))
      have hoO := hO.o
      have hL := hL0.ro hR
      have ho := hL.o
      refine x_iinc (i := 2) (q := 2) (v := nI (m + 1)) (L' := [(2, .int (nI (m + 1))), (0, .ref a), (1, .ref o), (3, .int (nI 8))]) dX1_copy_82 rfl (nI_1 _) (by decide) rfl ?_
      refine x_goto (tgt := 10) dX1_copy_85 (by decide) ?_
      refine x_locs (L' := [(0, .ref a), (1, .ref o), (2, .int (nI (m + 1)))]) [1, 2, 0] rfl ?_
      exact ih (m + 1) _ _ _ _ _ _ (by omega) hR hO hQ hT.row hk0 hn0
    | succ e ihe =>
      intro s τ T N2 mc2 hse hR hO hQ hT
      have hs : s < 8 := by omega
      have hL := hL0.ro hR
      have ho := hL.o
      have hoO := hO.o
      have h2 := hI.2.2.1 m s
      refine x_iload_n dX1_copy_18 3 rfl rfl ?_
      refine x_bipush (v := nI 8) dX1_copy_19 (by decide) ?_
      refine x_icmp_ge (tgt := 46) dX1_copy_21 (by decide) (fun h_ => absurd h_ (fun h => absurd (nLe (by omega) (by omega) h) (by omega))) (fun _ => ?_)
      refine x_aload_n dX1_copy_24 1 rfl rfl ?_
      refine x_get dX1_copy_25 vC_1 in_X1 hoO 0 (by decide) q277 rfl ?_
      refine x_iload_n dX1_copy_28 2 rfl rfl ?_
      obtain ⟨fh82, hh83, hv84⟩ := hO.2.1
      refine x_aald7 (N := 24) (j := m) dX1_copy_29 hh83 rfl (hm) (by decide) (hv84 _ (hm)) ?_
      refine x_iload_n dX1_copy_30 3 rfl rfl ?_
      refine x_aload_n dX1_copy_31 0 rfl rfl ?_
      refine x_get dX1_copy_32 vC_1 in_X1 ho 0 (by decide) q277 rfl ?_
      refine x_iload_n dX1_copy_35 2 rfl rfl ?_
      obtain ⟨fh85, hh86, hv87⟩ := hL.2.1
      refine x_aald7 (N := 24) (j := m) dX1_copy_36 hh86 rfl (hm) (by decide) (hv87 _ (hm)) ?_
      refine x_iload_n dX1_copy_37 3 rfl rfl ?_
      obtain ⟨fr88, hr89, hw90⟩ := hL.row (m := m) (hm)
      refine x_sald (N := 8) (j := s) (v := nI (hw S m s)) dX1_copy_38 hr89 rfl (hs) (by decide) (hw90 _ (hs)) ?_
      obtain ⟨fr91, hr92, hw93⟩ := hO.row (m := m) (hm)
      refine x_sast (N := 8) (j := s) (w := nI (hw S m s)) dX1_copy_39 hr92 rfl (hs) (by decide) (nar_s (by omega)) (fun σ94 h95 h96 => ?_)
      obtain ⟨N97, mc98, hO, hQ, hR⟩ := CPo.st (T' := (sHw T (fset (hw T) m (fset (hw T m) s (hw S m s))))) hR hQ (PL.how hO (m := m) (hm) h95 h96 (fun j hj => by
          show upd _ _ _ j = nI (fset (hw T) m (fset (hw T m) s (hw S m s)) m j)
          rw [fset_s]
          unfold upd fset
          split
          · rfl
          · exact hw93 j hj) (fun m' _ hn => fset_n hn) ⟨rfl, rfl⟩ rfl (fun i hi => rfl))
      have hoO := hO.o
      have hL := hL0.ro hR
      have ho := hL.o
      refine x_iinc (i := 3) (q := 3) (v := nI (s + 1)) (L' := [(3, .int (nI (s + 1))), (0, .ref a), (1, .ref o), (2, .int (nI m))]) dX1_copy_40 rfl (nI_1 _) (by decide) rfl ?_
      refine x_goto (tgt := 18) dX1_copy_43 (by decide) ?_
      refine x_locs (L' := [(0, .ref a), (1, .ref o), (2, .int (nI m)), (3, .int (nI (s + 1)))]) [1, 2, 3, 0] rfl ?_
      exact ihe (s + 1) _ _ _ _ (by omega) hR hO hQ hT.put
