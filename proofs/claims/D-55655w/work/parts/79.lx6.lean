set_option maxRecDepth 100000
theorem sm_mono {f : Nat → Nat} : ∀ {n m : Nat}, n ≤ m → sm f n ≤ sm f m := by
  intro n m h
  induction m with
  | zero => rw [Nat.le_zero.mp h]; exact Nat.le_refl _
  | succ m ih =>
    by_cases e : n = m + 1
    · rw [e]; exact Nat.le_refl _
    · exact Nat.le_trans (ih (by omega)) (Nat.le_add_right _ _)
def cW (S : AS) (o : Nat) : Nat := if tH S o = true then wC S o else 0
def tw (S : AS) : Nat := sm (cW S) 24
def rC (S : AS) (m : Nat) : Nat := if (aAt S m).isSome then 18 + 8 * tw S else 8
theorem rC_n {S : AS} {m : Nat} (h : aAt S m = none) : rC S m = 8 := by unfold rC; rw [h]; rfl
theorem rC_s {S : AS} {m s : Nat} (h : aAt S m = some s) : rC S m = 18 + 8 * tw S := by unfold rC; rw [h]; rfl
theorem edge_th {S : AS} (hI : IV S) {m o : Nat} (h : edge S m o = true) : tH S o = true := by
  cases ha : aAt S m with
  | none => rw [edge_none ha] at h; cases h
  | some s =>
    rw [edge_at ha] at h
    rcases Bool.or_eq_true _ _ |>.mp h with h | h
    · refine hI.2.2.2.1 o s (fun e => ?_)
      rw [e] at h
      simp at h
    · obtain ⟨w, hw, he⟩ := aheadL_mem (List.contains_iff_mem.mp h)
      rw [← he]
      exact (hI.w (aAt_some ha).1 hw).1
theorem reach_th {S : AS} (hI : IV S) {m o : Nat} (h : reach S m o) : tH S o = true := by
  induction h with
  | single h => exact edge_th hI h
  | tail _ h _ => exact edge_th hI h
theorem wait_th {S : AS} (hI : IV S) {m s : Nat} (h : aAt S m = some s) : tH S m = true := by
  obtain ⟨hs, w, hw⟩ := aAt_some h
  have := wishIn_some hw
  rw [← this.2]
  exact (hI.w hs this.1).1
theorem rB_f {S : AS} (hI : IV S) {m o : Nat} (h : tH S m = false) : rB S m o = false := by
  cases e : rB S m o with
  | false => rfl
  | true =>
    obtain ⟨s, hs⟩ := reach_wait (rB_iff.mp e)
    rw [wait_th hI hs] at h
    cases h
theorem BS.orE {f g : Nat → Bool} {z : Int32} (hz : BS z f) : BS (z ||| encB g) (fun i => f i || g i) := hz.or (encB_BS g)
/-- a closed set -/
theorem reach_eq {S : AS} {m : Nat} {F : Nat → Bool} (h0 : ∀ o, edge S m o = true → F o = true) (h1 : ∀ o, F o = true → rB S m o = true) (h2 : ∀ x, F x = true → ∀ o, edge S x o = true → F o = true) : F = rB S m := by
  funext o
  cases e : rB S m o with
  | true => exact reach_closed h0 h2 (rB_iff.mp e)
  | false =>
    cases e2 : F o with
    | false => rfl
    | true => rw [h1 o e2] at e; cases e
theorem BS.ne_cn {z w : Int32} {f g : Nat → Bool} (h1 : BS z f) (h2 : BS w g) (hne : ¬ w = z) (hs : ∀ i, g i = true → f i = true) : cn g 24 < cn f 24 := by
  obtain ⟨i, hi, e1, e2⟩ := BS.diff h1 h2 (fun e => hne e.symm) hs
  exact cn_lt (fun i _ => hs i) hi e2 e1
set_option maxHeartbeats 4000000 in
set_option maxRecDepth 100000 in
theorem con_X1_reach {l : Launch} {G : YG} {σ : AH} {a : Nat} {ad : Nat → Nat} {N : Nat → NL} {mc : Nat → Int32} {S : AS} {m : Nat} (hL : LD σ a ad N mc S) (hI : IV S) (hm : m < 24) : Con l yX1_reach cX1_reach 5 (some FieldType.int) G 9 (rC S m) (5 * rC S m) [.ref a, .int (nI m)] σ (PRO σ (encB (rB S m))) := by
  refine con_of (by decide) (Nat.le_of_ble_eq_true rfl) ?_
  refine x_locs (L' := [(0, .ref a), (1, .int (nI m))]) [0, 1] rfl ?_
  have ho := hL.o
  have hC := hI.c
  have hL0 := hL
  have hcn8 := hI.2.2.2.2.2.2.2.2.2
  have hwc := wC_le (S := S) (m := m)
  cases hat : aAt S m with
  | none =>
    have hrc := rC_n hat
    have hwc2 := wC_n hat
    have hrB : encB (rB S m) = 0 := by
      have : rB S m = fun _ => false := by
        funext o
        cases e : rB S m o with
        | false => rfl
        | true => obtain ⟨s, hs⟩ := reach_wait (rB_iff.mp e); rw [hat] at hs; cases hs
      rw [this]; exact BS.zero.enc.symm
    refine x_aload_n dX1_reach_0 0 rfl rfl ?_
    refine x_iload_n dX1_reach_1 1 rfl rfl ?_
    refine x_callV dX1_reach_2 (con_X1_waitsForWhom hL hI hm) (lw_V q1220 q1221 q1222 q86 q1223) (np := 1) (by decide +kernel) rfl (rcv_of vC_1 ho) ⟨Nat.le_of_ble_eq_true rfl, Nat.le_of_ble_eq_true rfl⟩ (Nat.le_of_ble_eq_true rfl) rfl (by omega) (by omega) (rP fun σ1 hR => ?_) nI'
    refine x_top (x' := 0) (edge_0 hat) ?_
    refine x_istore_n (i := 2) (L' := [(2, .int 0), (0, .ref a), (1, .int (nI m))]) dX1_reach_5 rfl (by decide) rfl ?_
    refine x_iconst (v := nI 0) dX1_reach_6 (by decide) ?_
    refine x_istore_n (i := 3) (L' := [(3, .int (nI 0)), (2, .int 0), (0, .ref a), (1, .int (nI m))]) dX1_reach_7 rfl (by decide) rfl ?_
    refine x_iload_n dX1_reach_8 0 rfl rfl ?_
    refine x_iload_n dX1_reach_9 1 rfl rfl ?_
    refine x_icmp_eq (tgt := 58) dX1_reach_10 (by decide) (fun _ => ?_) (fun h_ => absurd (rfl) h_)
    refine x_iload_n dX1_reach_58 1 rfl rfl ?_
    exact x_iret dX1_reach_59 rfl (pRo hrB.symm hR)
  | some s =>
    have hrc := rC_s hat
    have hwc2 := wC_s hat
    refine x_aload_n dX1_reach_0 0 rfl rfl ?_
    refine x_iload_n dX1_reach_1 1 rfl rfl ?_
    refine x_callV dX1_reach_2 (con_X1_waitsForWhom hL hI hm) (lw_V q1220 q1221 q1222 q86 q1223) (np := 1) (by decide +kernel) rfl (rcv_of vC_1 ho) ⟨Nat.le_of_ble_eq_true rfl, Nat.le_of_ble_eq_true rfl⟩ (Nat.le_of_ble_eq_true rfl) rfl (by omega) (by omega) (rP fun σ2 hR => ?_) nI'
    refine x_istore_n (i := 2) (L' := [(2, .int (encB (edge S m))), (0, .ref a), (1, .int (nI m))]) dX1_reach_5 rfl (by decide) rfl ?_
    refine x_iconst (v := nI 0) dX1_reach_6 (by decide) ?_
    refine x_istore_n (i := 3) (L' := [(3, .int (nI 0)), (2, .int (encB (edge S m))), (0, .ref a), (1, .int (nI m))]) dX1_reach_7 rfl (by decide) rfl ?_
    refine x_locs (L' := [(0, .ref a), (1, .int (nI m)), (2, .int (encB (edge S m))), (3, .int (nI 0))]) [2, 3, 1, 0] rfl ?_
    suffices loop : ∀ (e : Nat) (z b : Int32) (F B : Nat → Bool) (τ : AH) (k n : Nat), 8 ≤ e + cn B 24 → RO σ τ → BS z F → BS b B → (∀ o, edge S m o = true → F o = true) → (∀ o, F o = true → rB S m o = true) → (∀ o, B o = true → F o = true) → (∀ x, B x = true → ∀ o, edge S x o = true → F o = true) → e * tw S ≤ k → 5 * (e * tw S) ≤ n → X l yX1_reach cX1_reach 5 (some FieldType.int) [] G (yroom 9 (rC S m) (5 * rC S m)) (yEnd G (yroom 9 (rC S m) (5 * rC S m)) (PRO σ (encB (rB S m)))) 8 [(0, .ref a), (1, .int (nI m)), (2, .int z), (3, .int b)] [] τ k n from by
      refine loop 8 _ _ (edge S m) (fun _ => false) _ _ _ (by omega) hR (encB_BS _) (by rw [nI_0]; exact BS.zero) (fun o h => h) (fun o h => rB_iff.mpr (Relation.TransGen.single h)) (fun o h => by cases h) (fun x h => by cases h) (by omega) (by omega)
    intro e
    induction e with
    | zero =>
      intro z b F B τ k n he hR hz hb h0 h1 h2 h3 hk0 hn0
      have hFle : cn F 24 ≤ cn (tH S) 24 := cn_mono (fun i _ h => reach_th hI (rB_iff.mp (h1 i h)))
      have hBF : b = z := by
        by_cases e : b = z
        · exact e
        · have := hz.ne_cn hb e h2; omega
      refine x_iload_n dX1_reach_8 3 rfl rfl ?_
      refine x_iload_n dX1_reach_9 2 rfl rfl ?_
      refine x_icmp_eq (tgt := 58) dX1_reach_10 (by decide) (fun _ => ?_) (fun h_ => absurd (hBF) h_)
      refine x_iload_n dX1_reach_58 2 rfl rfl ?_
      have hcl : F = rB S m := by
        have hFB : ∀ i, i < 24 → F i = B i := fun i hi => hz.same (hBF ▸ hb) hi
        refine reach_eq h0 h1 (fun x hx o ho => ?_)
        have hx24 : x < 24 := by have := hI.th (reach_th hI (rB_iff.mp (h1 x hx))); omega
        exact h3 x (by rw [← hFB x hx24]; exact hx) o ho
      exact x_iret dX1_reach_59 rfl (pRo (by rw [← hcl]; exact hz.enc) hR)
    | succ e ihe =>
      intro z b F B τ k n he hR hz hb h0 h1 h2 h3 hk0 hn0
      have hL := hL0.ro hR
      have ho := hL.o
      refine x_iload_n dX1_reach_8 3 rfl rfl ?_
      refine x_iload_n dX1_reach_9 2 rfl rfl ?_
      refine x_icmp_eq (tgt := 58) dX1_reach_10 (by decide) (fun c1 => ?_) (fun c1 => ?_)
      · have hBF : b = z := c1
        refine x_iload_n dX1_reach_58 2 rfl rfl ?_
        have hcl : F = rB S m := by
          have hFB : ∀ i, i < 24 → F i = B i := fun i hi => hz.same (hBF ▸ hb) hi
          refine reach_eq h0 h1 (fun x hx o ho => ?_)
          have hx24 : x < 24 := by have := hI.th (reach_th hI (rB_iff.mp (h1 x hx))); omega
          exact h3 x (by rw [← hFB x hx24]; exact hx) o ho
        exact x_iret dX1_reach_59 rfl (pRo (by rw [← hcl]; exact hz.enc) hR)
      · have hlt := hz.ne_cn hb c1 h2
        refine x_iload_n dX1_reach_13 2 rfl rfl ?_
        refine x_istore_n (i := 3) (L' := [(3, .int z), (0, .ref a), (1, .int (nI m)), (2, .int z)]) dX1_reach_14 rfl (by decide) rfl ?_
        refine x_iconst (v := nI 0) dX1_reach_15 (by decide) ?_
        refine x_istore (i := 4) (L' := [(4, .int (nI 0)), (3, .int z), (0, .ref a), (1, .int (nI m)), (2, .int z)]) dX1_reach_16 (by decide) rfl ?_
        refine x_locs (L' := [(0, .ref a), (1, .int (nI m)), (2, .int z), (3, .int z), (4, .int (nI 0))]) [2, 3, 4, 1, 0] rfl ?_
        have hmul : (e + 1) * tw S = e * tw S + tw S := Nat.succ_mul _ _
        suffices inner : ∀ (d i : Nat) (z2 : Int32) (F2 : Nat → Bool) (τ : AH) (k n : Nat), i + d = nC S → RO σ τ → BS z2 F2 → (∀ o, F o = true → F2 o = true) → (∀ o, F2 o = true → rB S m o = true) → (∀ x, x < i → F x = true → ∀ o, edge S x o = true → F2 o = true) → e * tw S + tw S ≤ k + sm (cW S) i → 5 * (e * tw S) + 5 * tw S ≤ n + 5 * sm (cW S) i → X l yX1_reach cX1_reach 5 (some FieldType.int) [] G (yroom 9 (rC S m) (5 * rC S m)) (yEnd G (yroom 9 (rC S m) (5 * rC S m)) (PRO σ (encB (rB S m)))) 18 [(0, .ref a), (1, .int (nI m)), (2, .int z2), (3, .int z), (4, .int (nI i))] [] τ k n from by
          have hs0 : sm (cW S) 0 = 0 := rfl
          exact inner (nC S) 0 z F τ _ _ (Nat.zero_add _) hR hz (fun o h => h) h1 (fun x hx => absurd hx (Nat.not_lt_zero x)) (by omega) (by omega)
        intro d
        induction d with
        | zero =>
          intro i z2 F2 τ k n hi hR hz2 g0 g1 g2 hk0 hn0
          have hin : i = nC S := by omega
          subst hin
          have hL := hL0.ro hR
          have ho := hL.o
          have hsm : sm (cW S) (nC S) ≤ tw S := sm_mono hC
          refine x_iload dX1_reach_18 4 rfl ?_
          refine x_aload_n dX1_reach_20 0 rfl rfl ?_
          refine x_get dX1_reach_21 vC_1 in_X1 ho 8 (by decide) q290 rfl ?_
          refine x_icmp_ge (tgt := 55) dX1_reach_24 (by decide) (fun _ => ?_) (fun h_ => absurd ((nI_leI (by omega) (by omega)).mpr (Nat.le_refl _)) h_)
          refine x_goto (tgt := 8) dX1_reach_55 (by decide) ?_
          refine x_locs (L' := [(0, .ref a), (1, .int (nI m)), (2, .int z2), (3, .int z)]) [0, 1, 2, 3] rfl ?_
          exact ihe z2 z F2 F τ k n (by omega) hR hz2 hz (fun o h => g0 o (h0 o h)) g1 g0 (fun x hx o ho => g2 x (hI.th (reach_th hI (rB_iff.mp (h1 x hx)))) hx o ho) (by omega) (by omega)
        | succ d ih =>
          intro i z2 F2 τ k n hi hR hz2 g0 g1 g2 hk0 hn0
          have hiC : i < nC S := by omega
          have hL := hL0.ro hR
          have ho := hL.o
          have hsi : sm (cW S) (i + 1) = sm (cW S) i + cW S i := rfl
          have hsm : sm (cW S) (i + 1) ≤ tw S := sm_mono (by omega)
          refine x_iload dX1_reach_18 4 rfl ?_
          refine x_aload_n dX1_reach_20 0 rfl rfl ?_
          refine x_get dX1_reach_21 vC_1 in_X1 ho 8 (by decide) q290 rfl ?_
          refine x_icmp_ge (tgt := 55) dX1_reach_24 (by decide) (fun h_ => absurd h_ (fun h => absurd (nLe (by omega) (by omega) h) (by omega))) (fun _ => ?_)
          refine x_iload_n dX1_reach_27 2 rfl rfl ?_
          refine x_iload_n dX1_reach_28 2 rfl rfl ?_
          refine x_iload dX1_reach_29 4 rfl ?_
          refine x_callSN dX1_reach_31 (con_X0_has hz2 (o := i) (by omega)) (lw_meth q1055) q85 q1053 q1054 (np := 2) (by decide +kernel) rfl ⟨Nat.le_of_ble_eq_true rfl, Nat.le_of_ble_eq_true rfl⟩ (Nat.le_of_ble_eq_true rfl) rfl (Nat.zero_le _) (Nat.zero_le _) (rS ?_) nI'
          refine x_if_eq (tgt := 46) dX1_reach_34 (by decide) (fun c2 => ?_) (fun c2 => ?_)
          · have c2 := bI_0 c2
            refine x_iconst (v := nI 0) dX1_reach_46 (by decide) ?_
            refine x_ior dX1_reach_47 ?_
            refine x_top (x' := z2) (by rw [nI_0, Int32.or_zero]) ?_
            refine x_istore_n (i := 2) (L' := [(2, .int z2), (0, .ref a), (1, .int (nI m)), (3, .int z), (4, .int (nI i))]) dX1_reach_48 rfl (by decide) rfl ?_
            refine x_iinc (i := 4) (q := 4) (v := nI (i + 1)) (L' := [(4, .int (nI (i + 1))), (2, .int z2), (0, .ref a), (1, .int (nI m)), (3, .int z)]) dX1_reach_49 rfl (nI_1 _) (by decide) rfl ?_
            refine x_goto (tgt := 18) dX1_reach_52 (by decide) ?_
            refine x_locs (L' := [(0, .ref a), (1, .int (nI m)), (2, .int z2), (3, .int z), (4, .int (nI (i + 1)))]) [2, 3, 1, 4, 0] rfl ?_
            exact ih (i + 1) z2 F2 τ k n (by omega) hR hz2 g0 g1 (fun x hx hF o ho => by
              by_cases e : x = i
              · subst e; rw [g0 x hF] at c2; cases c2
              · exact g2 x (by omega) hF o ho) (by omega) (by omega)
          · have c2 := bI_1 c2
            have hti := reach_th hI (rB_iff.mp (g1 i c2))
            have hcw : cW S i = wC S i := if_pos hti
            have hwi := wC_le (S := S) (m := i)
            refine x_aload_n dX1_reach_37 0 rfl rfl ?_
            refine x_iload dX1_reach_38 4 rfl ?_
            refine x_callV dX1_reach_40 (con_X1_waitsForWhom hL hI (m := i) (by omega)) (lw_V q1220 q1221 q1222 q86 q1223) (np := 1) (by decide +kernel) rfl (rcv_of vC_1 ho) ⟨Nat.le_of_ble_eq_true rfl, Nat.le_of_ble_eq_true rfl⟩ (Nat.le_of_ble_eq_true rfl) rfl (by omega) (by omega) (rP fun σ4 hR2 => ?_) nI'
            refine x_goto (tgt := 47) dX1_reach_43 (by decide) ?_
            refine x_ior dX1_reach_47 ?_
            refine x_istore_n (i := 2) (L' := [(2, .int (z2 ||| (encB (edge S i)))), (0, .ref a), (1, .int (nI m)), (3, .int z), (4, .int (nI i))]) dX1_reach_48 rfl (by decide) rfl ?_
            refine x_iinc (i := 4) (q := 4) (v := nI (i + 1)) (L' := [(4, .int (nI (i + 1))), (2, .int (z2 ||| (encB (edge S i)))), (0, .ref a), (1, .int (nI m)), (3, .int z)]) dX1_reach_49 rfl (nI_1 _) (by decide) rfl ?_
            refine x_goto (tgt := 18) dX1_reach_52 (by decide) ?_
            refine x_locs (L' := [(0, .ref a), (1, .int (nI m)), (2, .int (z2 ||| (encB (edge S i)))), (3, .int z), (4, .int (nI (i + 1)))]) [2, 3, 1, 4, 0] rfl ?_
            exact ih (i + 1) _ (fun o => F2 o || edge S i o) _ _ _ (by omega) (hR.tr hR2) hz2.orE (fun o h => by simp [g0 o h]) (fun o h => by
              rcases Bool.or_eq_true _ _ |>.mp h with h | h
              · exact g1 o h
              · exact rB_iff.mpr (Relation.TransGen.tail (rB_iff.mp (g1 i c2)) h)) (fun x hx hF o ho => by
              by_cases e : x = i
              · subst e; simp [ho]
              · simp [g2 x (by omega) hF o ho]) (by omega) (by omega)
set_option maxHeartbeats 4000000 in
set_option maxRecDepth 100000 in
theorem con_X1_isInRing {l : Launch} {G : YG} {σ : AH} {a : Nat} {ad : Nat → Nat} {N : Nat → NL} {mc : Nat → Int32} {S : AS} {m : Nat} (hL : LD σ a ad N mc S) (hI : IV S) (hm : m < 24) : Con l yX1_isInRing cX1_isInRing 2 (some FieldType.boolean) G 10 (rC S m) (5 * rC S m) [.ref a, .int (nI m)] σ (PRO σ (bI (rB S m m))) := by
  refine con_of (by decide) (Nat.le_of_ble_eq_true rfl) ?_
  refine x_locs (L' := [(0, .ref a), (1, .int (nI m))]) [0, 1] rfl ?_
  have ho := hL.o
  refine x_aload_n dX1_isInRing_0 0 rfl rfl ?_
  refine x_iload_n dX1_isInRing_1 1 rfl rfl ?_
  refine x_callV dX1_isInRing_2 (con_X1_reach hL hI hm) (lw_V q1216 q1218 qs20 q86 q1219) (np := 1) (by decide +kernel) rfl (rcv_of vC_1 ho) ⟨Nat.le_of_ble_eq_true rfl, Nat.le_of_ble_eq_true rfl⟩ (Nat.le_of_ble_eq_true rfl) rfl (Nat.le_refl _) (Nat.le_refl _) (rP fun σ1 hR => ?_) nI'
  refine x_iload_n dX1_isInRing_5 1 rfl rfl ?_
  refine x_callSN dX1_isInRing_6 (con_X0_has (encB_BS (rB S m)) hm) (lw_meth q1055) q85 q1053 q1054 (np := 2) (by decide +kernel) rfl ⟨Nat.le_of_ble_eq_true rfl, Nat.le_of_ble_eq_true rfl⟩ (Nat.le_of_ble_eq_true rfl) rfl (Nat.zero_le _) (Nat.zero_le _) (rS ?_) nI'
  exact x_zret dX1_isInRing_9 rfl (bI_z _) (pRo rfl hR)
def cR (S : AS) (o : Nat) : Nat := if tH S o = true then rC S o else 0
def yC (S : AS) : Nat := 2 + sm (cR S) 24
noncomputable def yV (z : Option Nat) : Int32 := match z with
  | none => -11
  | some m => nI m
theorem yg_hi {S : AS} (hI : IV S) : ∀ n, nC S ≤ n → yg S n = yg S (nC S) := by
  intro n
  induction n with
  | zero => intro h; rw [Nat.le_zero.mp h]
  | succ n ih =>
    intro h
    by_cases e : n + 1 = nC S
    · rw [e]
    · have hn : rB S n n = false := rB_f hI (by
        cases q : tH S n with
        | false => rfl
        | true => have := hI.th q; omega)
      show (if rB S n n then some n else yg S n) = _
      rw [hn]
      exact ih (by omega)
theorem young_24 {S : AS} (hI : IV S) : yg S 24 = young S := yg_hi hI 24 hI.c
theorem yg_t {S : AS} {j : Nat} (h : rB S j j = true) : yg S (j + 1) = some j := if_pos h
theorem yg_f {S : AS} {j : Nat} (h : rB S j j = false) : yg S (j + 1) = yg S j := if_neg (by rw [h]; exact fun z => by cases z)
theorem su_t5 {c : Nat → Nat} : ∀ d j, su (fun i => 5 * c i) j d = 5 * su c j d := by
  intro d
  induction d with
  | zero => intro j; rfl
  | succ d ih =>
    intro j
    show 5 * c j + su _ (j + 1) d = 5 * (c j + su c (j + 1) d)
    rw [ih]; omega
set_option maxHeartbeats 4000000 in
set_option maxRecDepth 100000 in
theorem con_X1_youngestInRing {l : Launch} {G : YG} {σ : AH} {a : Nat} {ad : Nat → Nat} {N : Nat → NL} {mc : Nat → Int32} {S : AS}  (hL : LD σ a ad N mc S) (hI : IV S) : Con l yX1_youngestInRing cX1_youngestInRing 4 (some FieldType.int) G 11 (yC S) (5 * yC S) [.ref a] σ (PRO σ (yV (young S))) := by
  refine con_of (by decide) (Nat.le_of_ble_eq_true rfl) ?_
  refine x_locs (L' := [(0, .ref a)]) [0] rfl ?_
  have ho := hL.o
  have hL0 := hL
  have hyc : yC S = 2 + sm (cR S) 24 := rfl
  have hsu := su_24 (c := cR S)
  have hsu5 := su_t5 (c := cR S) 24 0
  refine x_bipush (v := (-11)) dX1_youngestInRing_0 (by decide) ?_
  refine x_istore_n (i := 1) (L' := [(1, .int (-11)), (0, .ref a)]) dX1_youngestInRing_2 rfl (by decide) rfl ?_
  refine x_aload_n dX1_youngestInRing_3 1 rfl rfl ?_
  refine x_callV dX1_youngestInRing_4 (con_X1_maids hL) (lw_V q1130 q1131 q1132 q86 q1133) (np := 0) (by decide +kernel) rfl (rcv_of vC_1 ho) ⟨Nat.le_of_ble_eq_true rfl, Nat.le_of_ble_eq_true rfl⟩ (Nat.le_of_ble_eq_true rfl) rfl (by omega) (by omega) (rA fun it2 σ3 hm1 => ?_) nA'
  obtain ⟨it2n, it2c, it2u⟩ := hm1
  have hL := hL.ro (ro_new it2n it2u)
  have ho := hL.o
  refine x_callF dX1_youngestInRing_7 (con_X5_iterator it2c) (lw_F q1148 q1152 q1154 q120 q1156) q1150 q1149 q1155 q1153 q1151 (np := 0) (by decide +kernel) rfl vC_5 it2c ⟨Nat.le_of_ble_eq_true rfl, Nat.le_of_ble_eq_true rfl⟩ (Nat.le_of_ble_eq_true rfl) rfl (by omega) (by omega) (rA fun b σ5 hm4 => ?_) nA'
  obtain ⟨bn0, bc, bu⟩ := hm4
  have hL := hL.ro (ro_new bn0 bu)
  have ho := hL.o
  have bn : σ b = none := ((RO.rf).tr (ro_new it2n it2u)).nn bn0
  have hRb := ((RO.rf).tr (ro_new it2n it2u)).tr (ro_new bn0 bu)
  refine x_astore_n (i := 2) (L' := [(2, .ref b), (1, .int (-11)), (0, .ref a)]) dX1_youngestInRing_12 rfl (by decide) rfl ?_
  refine x_locs (L' := [(0, .ref a), (1, .int (-11)), (2, .ref b)]) [2, 1, 0] rfl ?_
  suffices loop : ∀ (d j : Nat) (τ : AH) (z : Int32) (k n : Nat), j + d = 24 → RO σ τ → τ b = some (.inr (6, [.int z])) → BS z (fun i => decide (j ≤ i) && tH S i) → su (cR S) j d ≤ k → su (fun i => 5 * cR S i) j d ≤ n → X l yX1_youngestInRing cX1_youngestInRing 4 (some FieldType.int) [] G (yroom 11 (yC S) (5 * yC S)) (yEnd G (yroom 11 (yC S) (5 * yC S)) (PRO σ (yV (young S)))) 13 [(0, .ref a), (1, .int (yV (yg S j))), (2, .ref b)] [] τ k n from loop 24 0 _ _ _ _ (Nat.zero_add _) (hRb) bc (encB_BS _) (by omega) (by omega)
  intro d
  induction d with
  | zero =>
    intro j τ z k n hj hR hc hz hk0 hn0
    have hL := hL0.ro hR
    have ho := hL.o
    have hj24 : j = 24 := by omega
    subst hj24
    have hz0 : z = 0 := hz.zero_iff.mpr (fun i hi => by rw [decide_eq_false (by omega)]; rfl)
    refine x_aload_n dX1_youngestInRing_13 2 rfl rfl ?_
    refine x_callF dX1_youngestInRing_14 (con_X6_hasNext hc) (lw_F q509 q513 q515 q121 q517) q511 q510 q516 q514 q512 (np := 0) (by decide +kernel) rfl vC_6 hc ⟨Nat.le_of_ble_eq_true rfl, Nat.le_of_ble_eq_true rfl⟩ (Nat.le_of_ble_eq_true rfl) rfl (Nat.zero_le _) (Nat.zero_le _) (rS ?_) nI'
    refine x_top (x' := 0) (by rw [hz0]; rfl) ?_
    refine x_if_eq (tgt := 56) dX1_youngestInRing_19 (by decide) (fun _ => ?_) (fun h_ => absurd (rfl) h_)
    refine x_iload_n dX1_youngestInRing_56 1 rfl rfl ?_
    exact x_iret dX1_youngestInRing_57 rfl (pRo (by rw [young_24 hI]) hR)
  | succ d ih =>
    intro j τ z k n hj hR hc hz hk0 hn0
    have hL := hL0.ro hR
    have ho := hL.o
    by_cases ht : tH S j = true
    · have hjC := hI.th ht
      have hC := hI.c
      have hfj : (decide (j ≤ j) && tH S j) = true := by rw [ht]; simp
      have hlo : ∀ i, i < j → (decide (j ≤ i) && tH S i) = false := fun i hi => by rw [decide_eq_false (by omega)]; rfl
      have hzn : z ≠ 0 := fun e => by have := hz.zero_iff.mp e j (by omega); rw [hfj] at this; cases this
      have hk1 := su_le hk0
      have hn1 := su_le hn0
      refine x_aload_n dX1_youngestInRing_13 2 rfl rfl ?_
      refine x_callF dX1_youngestInRing_14 (con_X6_hasNext hc) (lw_F q509 q513 q515 q121 q517) q511 q510 q516 q514 q512 (np := 0) (by decide +kernel) rfl vC_6 hc ⟨Nat.le_of_ble_eq_true rfl, Nat.le_of_ble_eq_true rfl⟩ (Nat.le_of_ble_eq_true rfl) rfl (Nat.zero_le _) (Nat.zero_le _) (rS ?_) nI'
      refine x_top (x' := 1) (by rw [decide_eq_true hzn]; rfl) ?_
      refine x_if_eq (tgt := 56) dX1_youngestInRing_19 (by decide) (fun h_ => absurd h_ (by decide)) (fun _ => ?_)
      refine x_aload_n dX1_youngestInRing_22 2 rfl rfl ?_
      refine x_callF dX1_youngestInRing_23 (con_X6_next hc hz (by omega) hfj hlo) (lw_F q555 q558 q560 q121 q562) q557 q556 q561 q559 q512 (np := 0) (by decide +kernel) rfl vC_6 hc ⟨Nat.le_of_ble_eq_true rfl, Nat.le_of_ble_eq_true rfl⟩ (Nat.le_of_ble_eq_true rfl) rfl (Nat.zero_le _) (Nat.zero_le _) (rA fun u σ9 h8 => ?_) nA'
      obtain ⟨rfl, hc, hbu⟩ := h8
      have hR := hR.nx bn hbu
      have hL := hL0.ro hR
      have ho := hL.o
      have hz := BS.stepT hz (by omega) hfj hlo
      refine x_ckcast dX1_youngestInRing_28 q1211 (bx_rc (by omega)) ?_
      refine x_callV dX1_youngestInRing_31 (con_J20_intValue (n := j) (by omega)) (lw_V q1212 q1213 q1214 q110 q1215) (np := 0) (by decide +kernel) rfl (bx_rc (by omega)) ⟨Nat.le_of_ble_eq_true rfl, Nat.le_of_ble_eq_true rfl⟩ (Nat.le_of_ble_eq_true rfl) rfl (Nat.zero_le _) (Nat.zero_le _) (rS ?_) nI'
      have hcj : cR S j = rC S j := if_pos ht
      have hn1 : 5 * cR S j + su (fun i => 5 * cR S i) (j + 1) d ≤ n := hn1
      refine x_istore_n (i := 3) (L' := [(3, .int (nI j)), (0, .ref a), (1, .int (yV (yg S j))), (2, .ref b)]) dX1_youngestInRing_34 rfl (by decide) rfl ?_
      refine x_aload_n dX1_youngestInRing_35 1 rfl rfl ?_
      refine x_iload_n dX1_youngestInRing_36 0 rfl rfl ?_
      refine x_callV dX1_youngestInRing_37 (con_X1_reach hL hI (m := j) (by omega)) (lw_V q1216 q1218 qs20 q86 q1219) (np := 1) (by decide +kernel) rfl (rcv_of vC_1 ho) ⟨Nat.le_of_ble_eq_true rfl, Nat.le_of_ble_eq_true rfl⟩ (Nat.le_of_ble_eq_true rfl) rfl (by omega) (by omega) (rP fun σ11 hR3 => ?_) nI'
      have hL := hL.ro (hR3)
      have ho := hL.o
      have hc := hR3 _ _ hc
      have hR := hR.tr hR3
      refine x_iload_n dX1_youngestInRing_40 0 rfl rfl ?_
      refine x_callSN dX1_youngestInRing_41 (con_X0_has (encB_BS (rB S j)) (o := j) (by omega)) (lw_meth q1055) q85 q1053 q1054 (np := 2) (by decide +kernel) rfl ⟨Nat.le_of_ble_eq_true rfl, Nat.le_of_ble_eq_true rfl⟩ (Nat.le_of_ble_eq_true rfl) rfl (Nat.zero_le _) (Nat.zero_le _) (rS ?_) nI'
      refine x_if_eq (tgt := 51) dX1_youngestInRing_44 (by decide) (fun c1 => ?_) (fun c1 => ?_)
      · have c1 := bI_0 c1
        refine x_iload_n dX1_youngestInRing_51 2 rfl rfl ?_
        refine x_istore_n (i := 1) (L' := [(1, .int (yV (yg S j))), (3, .int (nI j)), (0, .ref a), (2, .ref b)]) dX1_youngestInRing_52 rfl (by decide) rfl ?_
        refine x_goto (tgt := 13) dX1_youngestInRing_53 (by decide) ?_
        refine x_locs (L' := [(0, .ref a), (1, .int (yV (yg S j))), (2, .ref b)]) [2, 0, 3] rfl ?_
        rw [← yg_f c1]
        exact ih (j + 1) _ _ _ _ (by omega) hR hc hz (by omega) (by omega)
      · have c1 := bI_1 c1
        refine x_iload_n dX1_youngestInRing_47 0 rfl rfl ?_
        refine x_goto (tgt := 52) dX1_youngestInRing_48 (by decide) ?_
        refine x_istore_n (i := 1) (L' := [(1, .int (nI j)), (3, .int (nI j)), (0, .ref a), (2, .ref b)]) dX1_youngestInRing_52 rfl (by decide) rfl ?_
        refine x_goto (tgt := 13) dX1_youngestInRing_53 (by decide) ?_
        refine x_locs (L' := [(0, .ref a), (1, .int (nI j)), (2, .ref b)]) [2, 0, 3] rfl ?_
        have hyv : nI j = yV (yg S (j + 1)) := by rw [yg_t c1]; rfl
        rw [hyv]
        exact ih (j + 1) _ _ _ _ (by omega) hR hc hz (by omega) (by omega)
    · have hf : tH S j = false := by cases h : tH S j; rfl; exact absurd h ht
      have hk1 : cR S j + su (cR S) (j + 1) d ≤ k := hk0
      have hn1 : 5 * cR S j + su (fun i => 5 * cR S i) (j + 1) d ≤ n := hn0
      rw [← yg_f (rB_f hI hf)]
      exact ih (j + 1) _ _ _ _ (by omega) hR hc (hz.stepF hf) (by omega) (by omega)
noncomputable def wfU (S : AS) (m j : Nat) : Nat → Bool := fun o => decide (o < j) && rB S o m
theorem wfU_t {S : AS} {m j : Nat} (h : rB S j m = true) : fset (wfU S m j) j true = wfU S m (j + 1) := by
  funext x
  unfold fset wfU
  by_cases e : x = j
  · subst e; rw [if_pos rfl, h]; simp
  · rw [if_neg e]
    have : decide (x < j) = decide (x < j + 1) := decide_eq_decide.mpr (by omega)
    rw [this]
theorem wfU_f {S : AS} {m j : Nat} (h : rB S j m = false) : wfU S m j = wfU S m (j + 1) := by
  funext x
  unfold wfU
  by_cases e : x = j
  · subst e; rw [h]; simp
  · have : decide (x < j) = decide (x < j + 1) := decide_eq_decide.mpr (by omega)
    rw [this]
theorem wfU_24 {S : AS} {m : Nat} (hI : IV S) : encB (wfU S m 24) = encB (fun o => decide (o < nC S) && rB S o m) := BS.eq (encB_BS _) (encB_BS _) (fun i hi => by
  unfold wfU
  rw [decide_eq_true hi]
  by_cases e : i < nC S
  · rw [decide_eq_true e]
  · rw [decide_eq_false e, rB_f hI (by
      cases q : tH S i with
      | false => rfl
      | true => exact absurd (hI.th q) e)]; rfl)
set_option maxHeartbeats 4000000 in
set_option maxRecDepth 100000 in
theorem con_X1_waitedFor {l : Launch} {G : YG} {σ : AH} {a : Nat} {ad : Nat → Nat} {N : Nat → NL} {mc : Nat → Int32} {S : AS} {m : Nat} (hL : LD σ a ad N mc S) (hI : IV S) (hm : m < 24) : Con l yX1_waitedFor cX1_waitedFor 5 (some FieldType.int) G 11 (yC S) (5 * yC S) [.ref a, .int (nI m)] σ (PRO σ (encB (fun o => decide (o < nC S) && rB S o m))) := by
  refine con_of (by decide) (Nat.le_of_ble_eq_true rfl) ?_
  refine x_locs (L' := [(0, .ref a), (1, .int (nI m))]) [0, 1] rfl ?_
  have ho := hL.o
  have hL0 := hL
  have hyc : yC S = 2 + sm (cR S) 24 := rfl
  have hsu := su_24 (c := cR S)
  have hsu5 := su_t5 (c := cR S) 24 0
  refine x_iconst (v := nI 0) dX1_waitedFor_0 (by decide) ?_
  refine x_istore_n (i := 2) (L' := [(2, .int (nI 0)), (0, .ref a), (1, .int (nI m))]) dX1_waitedFor_1 rfl (by decide) rfl ?_
  refine x_aload_n dX1_waitedFor_2 1 rfl rfl ?_
  refine x_callV dX1_waitedFor_3 (con_X1_maids hL) (lw_V q1130 q1131 q1132 q86 q1133) (np := 0) (by decide +kernel) rfl (rcv_of vC_1 ho) ⟨Nat.le_of_ble_eq_true rfl, Nat.le_of_ble_eq_true rfl⟩ (Nat.le_of_ble_eq_true rfl) rfl (by omega) (by omega) (rA fun it2 σ3 hm1 => ?_) nA'
  obtain ⟨it2n, it2c, it2u⟩ := hm1
  have hL := hL.ro (ro_new it2n it2u)
  have ho := hL.o
  refine x_callF dX1_waitedFor_6 (con_X5_iterator it2c) (lw_F q1148 q1152 q1154 q120 q1156) q1150 q1149 q1155 q1153 q1151 (np := 0) (by decide +kernel) rfl vC_5 it2c ⟨Nat.le_of_ble_eq_true rfl, Nat.le_of_ble_eq_true rfl⟩ (Nat.le_of_ble_eq_true rfl) rfl (by omega) (by omega) (rA fun b σ5 hm4 => ?_) nA'
  obtain ⟨bn0, bc, bu⟩ := hm4
  have hL := hL.ro (ro_new bn0 bu)
  have ho := hL.o
  have bn : σ b = none := ((RO.rf).tr (ro_new it2n it2u)).nn bn0
  have hRb := ((RO.rf).tr (ro_new it2n it2u)).tr (ro_new bn0 bu)
  refine x_astore_n (i := 3) (L' := [(3, .ref b), (2, .int (nI 0)), (0, .ref a), (1, .int (nI m))]) dX1_waitedFor_11 rfl (by decide) rfl ?_
  refine x_locs (L' := [(0, .ref a), (1, .int (nI m)), (2, .int (nI 0)), (3, .ref b)]) [2, 3, 1, 0] rfl ?_
  have he0 : nI 0 = encB (wfU S m 0) := by
    have : wfU S m 0 = fun _ => false := by funext o; unfold wfU; simp
    rw [this]; exact BS.zero.enc
  rw [he0]
  suffices loop : ∀ (d j : Nat) (τ : AH) (z : Int32) (k n : Nat), j + d = 24 → RO σ τ → τ b = some (.inr (6, [.int z])) → BS z (fun i => decide (j ≤ i) && tH S i) → su (cR S) j d ≤ k → su (fun i => 5 * cR S i) j d ≤ n → X l yX1_waitedFor cX1_waitedFor 5 (some FieldType.int) [] G (yroom 11 (yC S) (5 * yC S)) (yEnd G (yroom 11 (yC S) (5 * yC S)) (PRO σ (encB (fun o => decide (o < nC S) && rB S o m)))) 12 [(0, .ref a), (1, .int (nI m)), (2, .int (encB (wfU S m j))), (3, .ref b)] [] τ k n from loop 24 0 _ _ _ _ (Nat.zero_add _) (hRb) bc (encB_BS _) (by omega) (by omega)
  intro d
  induction d with
  | zero =>
    intro j τ z k n hj hR hc hz hk0 hn0
    have hL := hL0.ro hR
    have ho := hL.o
    have hj24 : j = 24 := by omega
    subst hj24
    have hz0 : z = 0 := hz.zero_iff.mpr (fun i hi => by rw [decide_eq_false (by omega)]; rfl)
    refine x_aload_n dX1_waitedFor_12 3 rfl rfl ?_
    refine x_callF dX1_waitedFor_13 (con_X6_hasNext hc) (lw_F q509 q513 q515 q121 q517) q511 q510 q516 q514 q512 (np := 0) (by decide +kernel) rfl vC_6 hc ⟨Nat.le_of_ble_eq_true rfl, Nat.le_of_ble_eq_true rfl⟩ (Nat.le_of_ble_eq_true rfl) rfl (Nat.zero_le _) (Nat.zero_le _) (rS ?_) nI'
    refine x_top (x' := 0) (by rw [hz0]; rfl) ?_
    refine x_if_eq (tgt := 62) dX1_waitedFor_18 (by decide) (fun _ => ?_) (fun h_ => absurd (rfl) h_)
    refine x_iload_n dX1_waitedFor_62 2 rfl rfl ?_
    exact x_iret dX1_waitedFor_63 rfl (pRo (wfU_24 hI) hR)
  | succ d ih =>
    intro j τ z k n hj hR hc hz hk0 hn0
    have hL := hL0.ro hR
    have ho := hL.o
    by_cases ht : tH S j = true
    · have hjC := hI.th ht
      have hC := hI.c
      have hfj : (decide (j ≤ j) && tH S j) = true := by rw [ht]; simp
      have hlo : ∀ i, i < j → (decide (j ≤ i) && tH S i) = false := fun i hi => by rw [decide_eq_false (by omega)]; rfl
      have hzn : z ≠ 0 := fun e => by have := hz.zero_iff.mp e j (by omega); rw [hfj] at this; cases this
      have hk1 := su_le hk0
      have hn1 := su_le hn0
      refine x_aload_n dX1_waitedFor_12 3 rfl rfl ?_
      refine x_callF dX1_waitedFor_13 (con_X6_hasNext hc) (lw_F q509 q513 q515 q121 q517) q511 q510 q516 q514 q512 (np := 0) (by decide +kernel) rfl vC_6 hc ⟨Nat.le_of_ble_eq_true rfl, Nat.le_of_ble_eq_true rfl⟩ (Nat.le_of_ble_eq_true rfl) rfl (Nat.zero_le _) (Nat.zero_le _) (rS ?_) nI'
      refine x_top (x' := 1) (by rw [decide_eq_true hzn]; rfl) ?_
      refine x_if_eq (tgt := 62) dX1_waitedFor_18 (by decide) (fun h_ => absurd h_ (by decide)) (fun _ => ?_)
      refine x_aload_n dX1_waitedFor_21 3 rfl rfl ?_
      refine x_callF dX1_waitedFor_22 (con_X6_next hc hz (by omega) hfj hlo) (lw_F q555 q558 q560 q121 q562) q557 q556 q561 q559 q512 (np := 0) (by decide +kernel) rfl vC_6 hc ⟨Nat.le_of_ble_eq_true rfl, Nat.le_of_ble_eq_true rfl⟩ (Nat.le_of_ble_eq_true rfl) rfl (Nat.zero_le _) (Nat.zero_le _) (rA fun u σ9 h8 => ?_) nA'
      obtain ⟨rfl, hc, hbu⟩ := h8
      have hR := hR.nx bn hbu
      have hL := hL0.ro hR
      have ho := hL.o
      have hz := BS.stepT hz (by omega) hfj hlo
      refine x_ckcast dX1_waitedFor_27 q1211 (bx_rc (by omega)) ?_
      refine x_callV dX1_waitedFor_30 (con_J20_intValue (n := j) (by omega)) (lw_V q1212 q1213 q1214 q110 q1215) (np := 0) (by decide +kernel) rfl (bx_rc (by omega)) ⟨Nat.le_of_ble_eq_true rfl, Nat.le_of_ble_eq_true rfl⟩ (Nat.le_of_ble_eq_true rfl) rfl (Nat.zero_le _) (Nat.zero_le _) (rS ?_) nI'
      have hcj : cR S j = rC S j := if_pos ht
      have hn1 : 5 * cR S j + su (fun i => 5 * cR S i) (j + 1) d ≤ n := hn1
      refine x_istore (i := 4) (L' := [(4, .int (nI j)), (0, .ref a), (1, .int (nI m)), (2, .int (encB (wfU S m j))), (3, .ref b)]) dX1_waitedFor_33 (by decide) rfl ?_
      refine x_iload_n dX1_waitedFor_35 3 rfl rfl ?_
      refine x_aload_n dX1_waitedFor_36 1 rfl rfl ?_
      refine x_iload dX1_waitedFor_37 0 rfl ?_
      refine x_callV dX1_waitedFor_39 (con_X1_reach hL hI (m := j) (by omega)) (lw_V q1216 q1218 qs20 q86 q1219) (np := 1) (by decide +kernel) rfl (rcv_of vC_1 ho) ⟨Nat.le_of_ble_eq_true rfl, Nat.le_of_ble_eq_true rfl⟩ (Nat.le_of_ble_eq_true rfl) rfl (by omega) (by omega) (rP fun σ11 hR3 => ?_) nI'
      have hL := hL.ro (hR3)
      have ho := hL.o
      have hc := hR3 _ _ hc
      have hR := hR.tr hR3
      refine x_iload_n dX1_waitedFor_42 2 rfl rfl ?_
      refine x_callSN dX1_waitedFor_43 (con_X0_has (encB_BS (rB S j)) hm) (lw_meth q1055) q85 q1053 q1054 (np := 2) (by decide +kernel) rfl ⟨Nat.le_of_ble_eq_true rfl, Nat.le_of_ble_eq_true rfl⟩ (Nat.le_of_ble_eq_true rfl) rfl (Nat.zero_le _) (Nat.zero_le _) (rS ?_) nI'
      refine x_if_eq (tgt := 56) dX1_waitedFor_46 (by decide) (fun c1 => ?_) (fun c1 => ?_)
      · have c1 := bI_0 c1
        refine x_iconst (v := nI 0) dX1_waitedFor_56 (by decide) ?_
        refine x_ior dX1_waitedFor_57 ?_
        refine x_top (x' := (encB (wfU S m (j + 1)))) (by rw [← wfU_f c1, nI_0, Int32.or_zero]) ?_
        refine x_istore_n (i := 2) (L' := [(2, .int (encB (wfU S m (j + 1)))), (4, .int (nI j)), (0, .ref a), (1, .int (nI m)), (3, .ref b)]) dX1_waitedFor_58 rfl (by decide) rfl ?_
        refine x_goto (tgt := 12) dX1_waitedFor_59 (by decide) ?_
        refine x_locs (L' := [(0, .ref a), (1, .int (nI m)), (2, .int (encB (wfU S m (j + 1)))), (3, .ref b)]) [2, 3, 0, 4] rfl ?_
        exact ih (j + 1) _ _ _ _ (by omega) hR hc hz (by omega) (by omega)
      · have c1 := bI_1 c1
        refine x_iconst (v := nI 1) dX1_waitedFor_49 (by decide) ?_
        refine x_iload dX1_waitedFor_50 0 rfl ?_
        refine x_ishl dX1_waitedFor_52 ?_
        refine x_goto (tgt := 57) dX1_waitedFor_53 (by decide) ?_
        refine x_ior dX1_waitedFor_57 ?_
        refine x_top (x' := (encB (wfU S m (j + 1)))) (by rw [← wfU_t c1]; exact BS.set (encB_BS _) (by omega)) ?_
        refine x_istore_n (i := 2) (L' := [(2, .int (encB (wfU S m (j + 1)))), (4, .int (nI j)), (0, .ref a), (1, .int (nI m)), (3, .ref b)]) dX1_waitedFor_58 rfl (by decide) rfl ?_
        refine x_goto (tgt := 12) dX1_waitedFor_59 (by decide) ?_
        refine x_locs (L' := [(0, .ref a), (1, .int (nI m)), (2, .int (encB (wfU S m (j + 1)))), (3, .ref b)]) [2, 3, 0, 4] rfl ?_
        exact ih (j + 1) _ _ _ _ (by omega) hR hc hz (by omega) (by omega)
    · have hf : tH S j = false := by cases h : tH S j; rfl; exact absurd h ht
      have hk1 : cR S j + su (cR S) (j + 1) d ≤ k := hk0
      have hn1 : 5 * cR S j + su (fun i => 5 * cR S i) (j + 1) d ≤ n := hn0
      rw [wfU_f (rB_f hI hf)]
      exact ih (j + 1) _ _ _ _ (by omega) hR hc (hz.stepF hf) (by omega) (by omega)
