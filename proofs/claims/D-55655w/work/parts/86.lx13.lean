set_option maxRecDepth 100000
-- ===== wanting =====
theorem bI_or (a b : Bool) : bI a ||| bI b = bI (a || b) := by cases a <;> cases b <;> rfl
theorem serve_n {S : AS} (hI : IV S) {s : Nat} (hs : s < 8) : (serve S s).2 ≤ (qu S s).length :=
  serve_ind (fun S r => r.2 ≤ (qu S s).length) hs (fun _ _ _ => Nat.zero_le _) (fun S w ws _ hq _ h => by
    rw [hq]
    have h2 : qu (giveW (sRow S s ws) s w) s = ws := qu_sRow (S := S)
    rw [h2] at h
    exact Nat.succ_le_succ h) _ S hI rfl
theorem serveUp_n {hd : Nat → Bool} {r : AS × Nat} (hI : IV r.1) : ∀ k, k ≤ 8 → (serveUp hd r k).2 ≤ r.2 + 8 * k := by
  intro k
  induction k with
  | zero => intro _; exact Nat.le_refl _
  | succ k ih =>
    intro hk
    have h1 := ih (by omega)
    have hIk := IV.iServeUp (hd := hd) hI k (by omega)
    have h2 := serve_n hIk (s := k) (by omega)
    have h3 := hIk.len (s := k) (by omega)
    unfold serveUp
    split
    · show _ + _ ≤ _; omega
    · omega
theorem letAll_n {S : AS} (hI : IV S) {m : Nat} : (letAll S m).2 ≤ 72 := by
  have h1 : IV (clearHw (noMore S m) m) := hI.iNoMore.clear (noMore_self hI.uq)
  unfold letAll
  cases ha : aAt S m with
  | none =>
    have := serveUp_n (hd := fun k => !(hw (noMore S m) m k == 0)) (r := (clearHw (noMore S m) m, 0)) h1 8 (Nat.le_refl _)
    simp only at this ⊢
    omega
  | some s =>
    have hs := (aAt_some ha).1
    have h2 := serve_n h1 hs
    have h3 := h1.len hs
    have := serveUp_n (hd := fun k => !(hw (noMore S m) m k == 0)) (h1.iServe hs) 8 (Nat.le_refl _)
    simp only at this ⊢
    omega
/-- she still waits for it, or has it -/
def WP (S : AS) (m s k : Nat) : Prop := (aAt S m = some s ∧ kindOf S m = k) ∨ (aAt S m = none ∧ hw S m s = k)
theorem WP_give {S : AS} {m s k s' : Nat} {w : Wi} {ws : List Wi} (h : WP S m s k) (hI : IV S) (hs' : s' < 8) (hq : qu S s' = w :: ws) : WP (giveW (sRow S s' ws) s' w) m s k := by
  obtain ⟨g1, g2, g3⟩ := noMore_head hI hs' hq
  by_cases e : m = w.1
  · subst e
    rcases h with ⟨h1, h2⟩ | ⟨h1, -⟩
    · rw [g1] at h1
      cases h1
      refine Or.inr ⟨?_, ?_⟩
      · have := noMore_self hI.uq (m := w.1)
        rw [g3] at this
        exact this
      · show fset (hw S) w.1 (fset (hw S w.1) s w.2.1) w.1 s = k
        rw [fset_s, fset_s, ← h2, g2]
    · rw [g1] at h1; cases h1
  · have c1 : aAt (giveW (sRow S s' ws) s' w) m = aAt S m := by
      have := aAt_congr (S := noMore S w.1) (T := S) (m := m) (fun t _ => noMore_wish e)
      rw [g3] at this
      exact this
    have c2 : kindOf (giveW (sRow S s' ws) s' w) m = kindOf S m := by
      have := kindOf_congr (S := noMore S w.1) (T := S) (m := m) (fun t _ => noMore_wish e)
      rw [g3] at this
      exact this
    have c3 : hw (giveW (sRow S s' ws) s' w) m = hw S m := by
      show fset (hw S) w.1 _ m = _
      exact fset_n e
    unfold WP
    rw [c1, c2, c3]
    exact h
theorem WP_serve {S : AS} {m s k s' : Nat} (h : WP S m s k) (hI : IV S) (hs' : s' < 8) : WP (serve S s').1 m s k :=
  serve_ind (fun S r => WP S m s k → WP r.1 m s k) hs' (fun _ _ _ h => h) (fun S w ws hI hq _ h h0 => h (WP_give h0 hI hs' hq)) _ S hI rfl h
theorem WP_serveUp {hd : Nat → Bool} {r : AS × Nat} {m s k : Nat} (h : WP r.1 m s k) (hI : IV r.1) : ∀ n, n ≤ 8 → WP (serveUp hd r n).1 m s k := by
  intro n
  induction n with
  | zero => intro _; exact h
  | succ n ih =>
    intro hn
    have h1 := ih (by omega)
    unfold serveUp
    split
    · exact WP_serve h1 (IV.iServeUp hI n (by omega)) (by omega)
    · exact h1
theorem away {S : AS} {m y : Nat} (h : m ≠ y) : aAt (clearHw (noMore S y) y) m = aAt S m ∧ kindOf (clearHw (noMore S y) y) m = kindOf S m ∧ hw (clearHw (noMore S y) y) m = hw S m := by
  refine ⟨aAt_congr (S := noMore S y) (T := S) (fun t _ => noMore_wish h), kindOf_congr (S := noMore S y) (T := S) (fun t _ => noMore_wish h), ?_⟩
  show fset (hw (noMore S y)) y _ m = _
  rw [fset_n h, noMore_hw.1]
theorem WP_away {S : AS} {m s k y : Nat} (h : WP S m s k) (hI : IV S) (hn : m ≠ y) : WP (letAll S y).1 m s k := by
  have h1 : IV (clearHw (noMore S y) y) := hI.iNoMore.clear (noMore_self hI.uq)
  have h2 : WP (clearHw (noMore S y) y) m s k := by
    obtain ⟨e1, e2, e3⟩ := away (S := S) hn
    unfold WP
    rw [e1, e2, e3]
    exact h
  unfold letAll
  cases ha : aAt S y with
  | none => exact WP_serveUp (r := (clearHw (noMore S y) y, 0)) h2 h1 8 (Nat.le_refl _)
  | some z => exact WP_serveUp (WP_serve h2 h1 (aAt_some ha).1) (h1.iServe (aAt_some ha).1) 8 (Nat.le_refl _)
theorem gone_away {S : AS} {m y : Nat} (h : aAt S m = none) (hI : IV S) (hn : m ≠ y) : aAt (letAll S y).1 m = none ∧ hw (letAll S y).1 m = hw S m := by
  have h1 : IV (clearHw (noMore S y) y) := hI.iNoMore.clear (noMore_self hI.uq)
  obtain ⟨e1, -, e3⟩ := away (S := S) hn
  have h2 : aAt (clearHw (noMore S y) y) m = none := by rw [e1]; exact h
  unfold letAll
  cases ha : aAt S y with
  | none =>
    have := gone_serveUp (hd := fun k => !(hw (noMore S y) y k == 0)) (r := (clearHw (noMore S y) y, 0)) h1 h2 8 (Nat.le_refl _)
    exact ⟨this.1, this.2.trans e3⟩
  | some z =>
    have g := gone_serve h1 (aAt_some ha).1 h2
    have := gone_serveUp (hd := fun k => !(hw (noMore S y) y k == 0)) (h1.iServe (aAt_some ha).1) g.1 8 (Nat.le_refl _)
    exact ⟨this.1, this.2.trans (g.2.trans e3)⟩
/-- whether she has let go -/
def FI (fl : Bool) (T : AS) (m s k : Nat) : Prop := (fl = true → aAt T m = none ∧ ∀ s', hw T m s' = 0) ∧ (fl = false → WP T m s k)
theorem FI.let {fl : Bool} {T : AS} {m s k y : Nat} (h : FI fl T m s k) (hI : IV T) (hZ : HZ T) : FI (fl || (y == m)) (letAll (incL T y) y).1 m s k := by
  by_cases e : y = m
  · subst e
    refine ⟨fun _ => letAll_gone (S := incL T y) hI hZ, fun h => by simp at h⟩
  · have e2 : (y == m) = false := by simp [e]
    rw [e2, Bool.or_false]
    refine ⟨fun hf => ?_, fun hf => ?_⟩
    · obtain ⟨h1, h2⟩ := h.1 hf
      have := gone_away (S := incL T y) h1 hI (fun z => e z.symm)
      exact ⟨this.1, fun s' => by rw [this.2]; exact h2 s'⟩
    · exact WP_away (S := incL T y) (h.2 hf) hI (fun z => e z.symm)
noncomputable def hdC : Nat → AS → Nat
  | 0, _ => 0
  | f + 1, T => match young T with
    | none => 0
    | some y => 11 + yC (letAll (incL T y) y).1 + hdC f (letAll (incL T y) y).1
noncomputable def wantC (S : AS) (m s k : Nat) : Nat := 10 + (if atOnce S m s k = true then 0 else 10 + yC (waitW S s (m, k, hw S m s == 1)) + hdC (nW (waitW S s (m, k, hw S m s == 1))) (waitW S s (m, k, hw S m s == 1)))
/-- after a wish, ahead of the notes -/
noncomputable def wX (S : AS) (m s k : Nat) : AS := if atOnce S m s k then giveW S s (m, k, hw S m s == 1) else brk (nW (waitW S s (m, k, hw S m s == 1))) (waitW S s (m, k, hw S m s == 1))
theorem brk_none {T : AS} (h : young T = none) : ∀ f, brk f T = T := by
  intro f
  cases f with
  | zero => rfl
  | succ f => unfold brk; rw [h]
theorem brk_some {T : AS} {y f : Nat} (h : young T = some y) : brk (f + 1) T = brk f (letAll (incL T y) y).1 := by
  show (match young T with
    | none => T
    | some m => brk f (letAll (incL T m) m).1) = _
  rw [h]
theorem hdC_some {T : AS} {y f : Nat} (h : young T = some y) : hdC (f + 1) T = 11 + yC (letAll (incL T y) y).1 + hdC f (letAll (incL T y) y).1 := by
  show (match young T with
    | none => 0
    | some y => 11 + yC (letAll (incL T y) y).1 + hdC f (letAll (incL T y) y).1) = _
  rw [h]
set_option maxHeartbeats 4000000 in
set_option maxRecDepth 100000 in
theorem con_X1_wants_r {l : Launch} {G : YG} {σ : AH} {a : Nat} {ad : Nat → Nat} {N : Nat → NL} {mc : Nat → Int32} {S : AS} {m s k ft : Nat} {b : Bool} {r : Nat × Nat} (hL : LD σ a ad N mc S) (hI : IV S) (hZ : HZ S) (ht : tH S m = true) (hs : s < 8) (hk : k = if b then 2 else 1) (hf : FT σ ft) (hr : bar S m s k = some r) : Con l yX1_wants cX1_wants 10 (some FieldType.int) G 13 10 50 [.ref a, .int (nI m), .int (nI s), .int (bI b), .ref ft] σ (PT σ (nI r.1) (nI r.2)) := by
  refine con_of (by decide) (Nat.le_of_ble_eq_true rfl) ?_
  refine x_locs (L' := [(0, .ref a), (1, .int (nI m)), (2, .int (nI s)), (3, .int (bI b)), (4, .ref ft)]) [0, 1, 2, 3, 4] rfl ?_
  have ho := hL.o
  have hm : m < 24 := by have := hI.th ht; have := hI.c; omega
  refine x_aload_n dX1_wants_0 0 rfl rfl ?_
  refine x_iload_n dX1_wants_1 1 rfl rfl ?_
  refine x_iload_n dX1_wants_2 2 rfl rfl ?_
  refine x_iload_n dX1_wants_3 3 rfl rfl ?_
  refine x_callV dX1_wants_4 (con_X1_wish_r hL hI hm hs hk hr) (lw_V q1064 q1066 qs14 q86 q1067) (np := 3) (by decide +kernel) rfl (rcv_of vC_1 ho) ⟨Nat.le_of_ble_eq_true rfl, Nat.le_of_ble_eq_true rfl⟩ (Nat.le_of_ble_eq_true rfl) rfl (by omega) (by omega) rTn (fun E_ q_ σ1 hT_ => ?_)
  exact xt_out (fun z hz => by cases hz) hT_
set_option maxHeartbeats 4000000 in
set_option maxRecDepth 100000 in
theorem con_X1_wants {l : Launch} {G : YG} {σ : AH} {a : Nat} {ad : Nat → Nat} {N : Nat → NL} {mc : Nat → Int32} {S : AS} {m s k ft : Nat} {b : Bool} (hL : LD σ a ad N mc S) (hI : IV S) (hZ : HZ S) (ht : tH S m = true) (hs : s < 8) (hk : k = if b then 2 else 1) (hf : FT σ ft) (hr : bar S m s k = none) : Con l yX1_wants cX1_wants 10 (some FieldType.int) G 13 (wantC S m s k) (5 * wantC S m s k) [.ref a, .int (nI m), .int (nI s), .int (bI b), .ref ft] σ (PI fun z τ => z = nI (wA S m s k).2 ∧ PL a ad N σ (wX S m s k) τ) := by
  refine con_of (by decide) (Nat.le_of_ble_eq_true rfl) ?_
  refine x_locs (L' := [(0, .ref a), (1, .int (nI m)), (2, .int (nI s)), (3, .int (bI b)), (4, .ref ft)]) [0, 1, 2, 3, 4] rfl ?_
  have ho := hL.o
  have hm : m < 24 := by have := hI.th ht; have := hI.c; omega
  have hL0 := hL
  have hf0 := hf
  have hk12 : k = 1 ∨ k = 2 := by rw [hk]; cases b; exact Or.inl rfl; exact Or.inr rfl
  obtain ⟨hat, hn2, hnk⟩ := bar_none hr
  have h2 := hI.2.2.1 m s
  obtain ⟨B, hB⟩ : ∃ B, B = (hw S m s == 1) := ⟨_, rfl⟩
  obtain ⟨W, hW⟩ : ∃ W, W = waitW S s (m, k, hw S m s == 1) := ⟨_, rfl⟩
  have hwc : wantC S m s k = 10 + (if atOnce S m s k = true then 0 else 10 + yC W + hdC (nW W) W) := by unfold wantC; rw [← hW]
  have hIW : IV W := by rw [hW]; exact hI.iWaitW hs ht hk12 (by omega) hat
  have hZW : HZ W := by rw [hW]; exact hZ
  have hWP : WP W m s k := by
    have := ins_at (S := S) (s := s) (w := (m, k, hw S m s == 1)) hs hat
    rw [hW]
    exact Or.inl this
  have exit : ∀ (T : AS) (fl : Bool) (N1 : Nat → NL) (mc1 : Nat → Int32) (τ : AH) (k1 n1 : Nat), atOnce S m s k = false → young T = none → brk (nW W) W = T → IV T → FI fl T m s k → LD τ a ad N1 mc1 T → Fr (FP a ad N) σ τ → (∀ q, FP a ad N1 q → FP a ad N q ∨ σ q = none) → 8 ≤ k1 → 40 ≤ n1 → X l yX1_wants cX1_wants 10 (some FieldType.int) [] G (yroom 13 (wantC S m s k) (5 * wantC S m s k)) (yEnd G (yroom 13 (wantC S m s k) (5 * wantC S m s k)) (PI fun z τ => z = nI (wA S m s k).2 ∧ PL a ad N σ (wX S m s k) τ)) 83 [(0, .ref a), (1, .int (nI m)), (4, .ref ft), (7, .int (bI fl)), (8, .int (yV (young T)))] [] τ k1 n1 := by
    intro T fl N1 mc1 τ k1 n1 hao hy hBT hIT hFI hL hF hQ hk0 hn0
    have ho := hL.o
    have hA : wA S m s k = opWait S m s k := by unfold wA; rw [if_neg (by rw [hao]; exact fun z => by cases z)]
    have hX : wX S m s k = T := by unfold wX; rw [if_neg (by rw [hao]; exact fun z => by cases z), ← hW, hBT]
    have hop : (opWait S m s k).2 = if hw T m s = k then 2 else if (aAt T m).isSome then 1 else 0 := by unfold opWait; rw [← hW, hBT]
    rw [hA, hX, hop]
    refine x_iload dX1_wants_83 4 rfl ?_
    refine x_bipush (v := (-11)) dX1_wants_85 (by decide) ?_
    refine x_icmp_eq (tgt := 146) dX1_wants_87 (by decide) (fun _ => ?_) (fun h_ => absurd (by rw [hy]; rfl) h_)
    refine x_iload dX1_wants_146 3 rfl ?_
    refine x_if_eq (tgt := 155) dX1_wants_148 (by decide) (fun c1 => ?_) (fun c1 => ?_)
    · have c1 := bI_0 c1
      have hwp := hFI.2 c1
      refine x_aload_n dX1_wants_155 0 rfl rfl ?_
      refine x_iload_n dX1_wants_156 1 rfl rfl ?_
      refine x_callV dX1_wants_157 (con_X1_waitsFor hL hIT hm) (lw_V q1068 q1069 q1070 q86 q1071) (np := 1) (by decide +kernel) rfl (rcv_of vC_1 ho) ⟨Nat.le_of_ble_eq_true rfl, Nat.le_of_ble_eq_true rfl⟩ (Nat.le_of_ble_eq_true rfl) rfl (by omega) (by omega) (rP fun σ1 hR9 => ?_) nI'
      refine x_bipush (v := (-15)) dX1_wants_160 (by decide) ?_
      refine x_icmp_ne (tgt := 169) dX1_wants_162 (by decide) (fun c2 => ?_) (fun c2 => ?_)
      · obtain ⟨z, hz⟩ : ∃ z, aAt T m = some z := by
          cases h : aAt T m with
          | none => exact absurd (atV_none h) c2
          | some z => exact ⟨z, rfl⟩
        have hne : hw T m s ≠ k := by
          rcases hwp with ⟨h1, h2⟩ | ⟨h1, -⟩
          · obtain ⟨hs9, w9, hw9⟩ := aAt_some h1
            have h3 := wishIn_some hw9
            have h4 := hIT.w hs h3.1
            have h5 : kindOf T m = w9.2.1 := by unfold kindOf aWish; rw [h1]; simp only; rw [hw9]
            have h6 := h4.2.2.1
            rw [h3.2] at h6
            omega
          · rw [hz] at h1; cases h1
        refine x_iconst (v := nI 1) dX1_wants_169 (by decide) ?_
        exact x_iret dX1_wants_170 rfl (⟨_, rfl, by rw [if_neg hne, hz]; rfl, PL.thenro (τ := τ) ⟨_, _, hL, hF, hQ⟩ hR9⟩)
      · have hz : aAt T m = none := by
          cases h : aAt T m with
          | none => rfl
          | some z => rw [atV_some h] at c2; exact absurd c2 ((by decide +kernel : ∀ s, s < 8 → ¬ nI s = (-15)) z (aAt_some h).1)
        have he : hw T m s = k := by
          rcases hwp with ⟨h1, -⟩ | ⟨-, h2⟩
          · rw [hz] at h1; cases h1
          · exact h2
        refine x_iconst (v := nI 2) dX1_wants_165 (by decide) ?_
        refine x_goto (tgt := 170) dX1_wants_166 (by decide) ?_
        exact x_iret dX1_wants_170 rfl (⟨_, rfl, by rw [if_pos he], PL.thenro (τ := τ) ⟨_, _, hL, hF, hQ⟩ hR9⟩)
    · have c1 := bI_1 c1
      obtain ⟨g1, g2⟩ := hFI.1 c1
      have hne : hw T m s ≠ k := by rw [g2 s]; rcases hk12 with h | h <;> rw [h] <;> decide
      refine x_iconst (v := nI 0) dX1_wants_151 (by decide) ?_
      refine x_goto (tgt := 170) dX1_wants_152 (by decide) ?_
      exact x_iret dX1_wants_170 rfl (⟨_, rfl, by rw [if_neg hne, g1]; rfl, _, _, hL, hF, hQ⟩)
  have loop : ∀ (f : Nat) (T : AS) (fl : Bool) (N1 : Nat → NL) (mc1 : Nat → Int32) (τ : AH) (k1 n1 : Nat), atOnce S m s k = false → nW T ≤ f → brk (nW W) W = brk f T → IV T → HZ T → FI fl T m s k → LD τ a ad N1 mc1 T → Fr (FP a ad N) σ τ → (∀ q, FP a ad N1 q → FP a ad N q ∨ σ q = none) → hdC f T + 8 ≤ k1 → 5 * (hdC f T + 8) ≤ n1 → X l yX1_wants cX1_wants 10 (some FieldType.int) [] G (yroom 13 (wantC S m s k) (5 * wantC S m s k)) (yEnd G (yroom 13 (wantC S m s k) (5 * wantC S m s k)) (PI fun z τ => z = nI (wA S m s k).2 ∧ PL a ad N σ (wX S m s k) τ)) 83 [(0, .ref a), (1, .int (nI m)), (4, .ref ft), (7, .int (bI fl)), (8, .int (yV (young T)))] [] τ k1 n1 := by
    intro f
    induction f with
    | zero =>
      intro T fl N1 mc1 τ k1 n1 hao hf1 hBT hIT hZT hFI hL hF hQ hk0 hn0
      exact exit T fl N1 mc1 τ k1 n1 hao (nW_zero (by omega)) hBT hIT hFI hL hF hQ (by omega) (by omega)
    | succ f ih =>
      intro T fl N1 mc1 τ k1 n1 hao hf1 hBT hIT hZT hFI hL hF hQ hk0 hn0
      cases hy : young T with
      | none =>
        have := exit T fl N1 mc1 τ k1 n1 hao hy (by rw [hBT, brk_none hy]) hIT hFI hL hF hQ (by omega) (by omega)
        rw [hy] at this
        exact this
      | some y =>
        have hy24 := young_lt hIT y hy
        have hnW := nW_young hIT hy
        have hhd := hdC_some (f := f) hy
        have hBT2 := hBT.trans (brk_some (f := f) hy)
        have ho := hL.o
        have hn72 := letAll_n (S := incL T y) hIT (m := y)
        have hIT2 : IV (letAll (incL T y) y).1 := hIT.iIncL.iLetAll
        have hZT2 : HZ (letAll (incL T y) y).1 := HZ.letAll (S := incL T y) hZT hIT
        refine x_iload dX1_wants_83 4 rfl ?_
        refine x_bipush (v := (-11)) dX1_wants_85 (by decide) ?_
        refine x_icmp_eq (tgt := 146) dX1_wants_87 (by decide) (fun h_ => absurd h_ ((by decide +kernel : ∀ y, y < 24 → ¬ nI y = (-11)) y hy24)) (fun _ => ?_)
        refine x_iload dX1_wants_90 3 rfl ?_
        refine x_iload dX1_wants_92 4 rfl ?_
        refine x_iload_n dX1_wants_94 1 rfl rfl ?_
        refine x_icmp_ne (tgt := 102) dX1_wants_95 (by decide) (fun c1 => ?_) (fun c1 => ?_)
        · have c1 := nNe (by omega) (by omega) c1
          have hym : (y == m) = false := by simp [c1]
          refine x_iconst (v := nI 0) dX1_wants_102 (by decide) ?_
          refine x_ior dX1_wants_103 ?_
          refine x_top (x' := (bI (fl || (y == m)))) (by rw [hym]; exact bI_or fl false) ?_
          refine x_istore (i := 7) (L' := [(7, .int (bI (fl || (y == m)))), (0, .ref a), (1, .int (nI m)), (4, .ref ft), (8, .int (nI y))]) dX1_wants_104 (by decide) rfl ?_
          refine x_aload_n dX1_wants_106 1 rfl rfl ?_
          refine x_get dX1_wants_107 vC_1 in_X1 ho 2 (by decide) q281 rfl ?_
          refine x_iload dX1_wants_110 4 rfl ?_
          refine x_dup2_11 dX1_wants_112 rfl rfl ?_
          obtain ⟨fa2, ha3, hv4⟩ := hL.arr (i := 0) (by decide)
          refine x_iald (N := 24) (j := y) (v := nI (lG T y)) dX1_wants_113 ha3 rfl (hy24) (by decide) (hv4 _ (hy24)) ?_
          refine x_iconst (v := nI 1) dX1_wants_114 (by decide) ?_
          refine x_iadd dX1_wants_115 ?_
          refine x_top (x' := nI (lG T y + 1)) (nI_add _ _) ?_
          obtain ⟨fa5, ha6, hv7⟩ := hL.arr (i := 0) (by decide)
          refine x_iast (N := 24) (j := y) (w := nI (lG T y + 1)) dX1_wants_116 ha6 rfl (hy24) (by decide) (fun σ8 h9 h10 => ?_)
          obtain ⟨N11, mc12, hL, hF, hQ⟩ : PL a ad N σ (incL T y) σ8 := PL.tr hF hQ (PL.arr hL (i := 0) (by decide) h9 h10 (fun j hj => updF hv7 hj) rfl ⟨rfl, rfl⟩ rfl (fun i' hi' hn => match i', hi', hn with | 0, _, hn => (by first | rfl | exact absurd rfl hn) | 1, _, hn => (by first | rfl | exact absurd rfl hn) | 2, _, hn => (by first | rfl | exact absurd rfl hn) | 3, _, hn => (by first | rfl | exact absurd rfl hn) | 4, _, hn => (by first | rfl | exact absurd rfl hn)))
          have ho := hL.o
          have hf := hf0.frL hL0 hF
          refine x_aload_n dX1_wants_117 1 rfl rfl ?_
          refine x_iload dX1_wants_118 4 rfl ?_
          refine x_aload dX1_wants_120 3 rfl ?_
          refine x_callV dX1_wants_122 (con_X1_letsAllGo hL hIT.iIncL hy24 hf) (lw_V q1228 q1230 qs22 q86 q1231) (np := 2) (by decide +kernel) rfl (rcv_of vC_1 ho) ⟨Nat.le_of_ble_eq_true rfl, Nat.le_of_ble_eq_true rfl⟩ (Nat.le_of_ble_eq_true rfl) rfl (by omega) (by omega) (rI fun z9 σ13 h9 => ?_) nI'
          obtain ⟨hz9, N3, mc3, hL3, hF3, hQ3⟩ := h9
          have hF9 := hF.tr hF3 hQ
          have hQ9 : ∀ q, FP a ad N3 q → FP a ad N q ∨ σ q = none := fun q hq => (hQ3 q hq).elim (hQ q) (fun z => Or.inr (hF.nn z))
          have ho := hL3.o
          refine x_top (x' := nI (letAll (incL T y) y).2) (hz9) ?_
          refine x_istore (i := 9) (L' := [(9, .int (nI (letAll (incL T y) y).2)), (7, .int (bI (fl || (y == m)))), (0, .ref a), (1, .int (nI m)), (4, .ref ft), (8, .int (nI y))]) dX1_wants_125 (by decide) rfl ?_
          refine x_iload dX1_wants_127 0 rfl ?_
          refine x_if_ge (tgt := 137) dX1_wants_129 (by decide) (fun _ => ?_) (fun h_ => absurd (nI_pos' (by omega)) h_)
          refine x_aload_n dX1_wants_137 2 rfl rfl ?_
          refine x_callV dX1_wants_138 (con_X1_youngestInRing hL3 hIT2) (lw_V q1126 q1128 qs19 q86 q1129) (np := 0) (by decide +kernel) rfl (rcv_of vC_1 ho) ⟨Nat.le_of_ble_eq_true rfl, Nat.le_of_ble_eq_true rfl⟩ (Nat.le_of_ble_eq_true rfl) rfl (by omega) (by omega) (rP fun σ14 hR9 => ?_) nI'
          refine x_istore (i := 8) (L' := [(8, .int (yV (young (letAll (incL T y) y).1))), (9, .int (nI (letAll (incL T y) y).2)), (7, .int (bI (fl || (y == m)))), (0, .ref a), (1, .int (nI m)), (4, .ref ft)]) dX1_wants_141 (by decide) rfl ?_
          refine x_goto (tgt := 83) dX1_wants_143 (by decide) ?_
          refine x_locs (L' := [(0, .ref a), (1, .int (nI m)), (4, .ref ft), (7, .int (bI (fl || (y == m)))), (8, .int (yV (young (letAll (incL T y) y).1)))]) [3, 4, 5, 2, 0] rfl ?_
          exact ih _ _ _ _ _ _ _ hao (by omega) hBT2 hIT2 hZT2 (hFI.let hIT hZT) (hL3.ro hR9) (hF9.tr_ro hR9) hQ9 (by omega) (by omega)
        · have c1 := nEq (by omega) (by omega) c1
          have hym : (y == m) = true := by simp [c1]
          refine x_iconst (v := nI 1) dX1_wants_98 (by decide) ?_
          refine x_goto (tgt := 103) dX1_wants_99 (by decide) ?_
          refine x_ior dX1_wants_103 ?_
          refine x_top (x' := (bI (fl || (y == m)))) (by rw [hym]; exact bI_or fl true) ?_
          refine x_istore (i := 7) (L' := [(7, .int (bI (fl || (y == m)))), (0, .ref a), (1, .int (nI m)), (4, .ref ft), (8, .int (nI y))]) dX1_wants_104 (by decide) rfl ?_
          refine x_aload_n dX1_wants_106 1 rfl rfl ?_
          refine x_get dX1_wants_107 vC_1 in_X1 ho 2 (by decide) q281 rfl ?_
          refine x_iload dX1_wants_110 4 rfl ?_
          refine x_dup2_11 dX1_wants_112 rfl rfl ?_
          obtain ⟨fa15, ha16, hv17⟩ := hL.arr (i := 0) (by decide)
          refine x_iald (N := 24) (j := y) (v := nI (lG T y)) dX1_wants_113 ha16 rfl (hy24) (by decide) (hv17 _ (hy24)) ?_
          refine x_iconst (v := nI 1) dX1_wants_114 (by decide) ?_
          refine x_iadd dX1_wants_115 ?_
          refine x_top (x' := nI (lG T y + 1)) (nI_add _ _) ?_
          obtain ⟨fa18, ha19, hv20⟩ := hL.arr (i := 0) (by decide)
          refine x_iast (N := 24) (j := y) (w := nI (lG T y + 1)) dX1_wants_116 ha19 rfl (hy24) (by decide) (fun σ21 h22 h23 => ?_)
          obtain ⟨N24, mc25, hL, hF, hQ⟩ : PL a ad N σ (incL T y) σ21 := PL.tr hF hQ (PL.arr hL (i := 0) (by decide) h22 h23 (fun j hj => updF hv20 hj) rfl ⟨rfl, rfl⟩ rfl (fun i' hi' hn => match i', hi', hn with | 0, _, hn => (by first | rfl | exact absurd rfl hn) | 1, _, hn => (by first | rfl | exact absurd rfl hn) | 2, _, hn => (by first | rfl | exact absurd rfl hn) | 3, _, hn => (by first | rfl | exact absurd rfl hn) | 4, _, hn => (by first | rfl | exact absurd rfl hn)))
          have ho := hL.o
          have hf := hf0.frL hL0 hF
          refine x_aload_n dX1_wants_117 1 rfl rfl ?_
          refine x_iload dX1_wants_118 4 rfl ?_
          refine x_aload dX1_wants_120 3 rfl ?_
          refine x_callV dX1_wants_122 (con_X1_letsAllGo hL hIT.iIncL hy24 hf) (lw_V q1228 q1230 qs22 q86 q1231) (np := 2) (by decide +kernel) rfl (rcv_of vC_1 ho) ⟨Nat.le_of_ble_eq_true rfl, Nat.le_of_ble_eq_true rfl⟩ (Nat.le_of_ble_eq_true rfl) rfl (by omega) (by omega) (rI fun z9 σ26 h9 => ?_) nI'
          obtain ⟨hz9, N3, mc3, hL3, hF3, hQ3⟩ := h9
          have hF9 := hF.tr hF3 hQ
          have hQ9 : ∀ q, FP a ad N3 q → FP a ad N q ∨ σ q = none := fun q hq => (hQ3 q hq).elim (hQ q) (fun z => Or.inr (hF.nn z))
          have ho := hL3.o
          refine x_top (x' := nI (letAll (incL T y) y).2) (hz9) ?_
          refine x_istore (i := 9) (L' := [(9, .int (nI (letAll (incL T y) y).2)), (7, .int (bI (fl || (y == m)))), (0, .ref a), (1, .int (nI m)), (4, .ref ft), (8, .int (nI y))]) dX1_wants_125 (by decide) rfl ?_
          refine x_iload dX1_wants_127 0 rfl ?_
          refine x_if_ge (tgt := 137) dX1_wants_129 (by decide) (fun _ => ?_) (fun h_ => absurd (nI_pos' (by omega)) h_)
          refine x_aload_n dX1_wants_137 2 rfl rfl ?_
          refine x_callV dX1_wants_138 (con_X1_youngestInRing hL3 hIT2) (lw_V q1126 q1128 qs19 q86 q1129) (np := 0) (by decide +kernel) rfl (rcv_of vC_1 ho) ⟨Nat.le_of_ble_eq_true rfl, Nat.le_of_ble_eq_true rfl⟩ (Nat.le_of_ble_eq_true rfl) rfl (by omega) (by omega) (rP fun σ27 hR9 => ?_) nI'
          refine x_istore (i := 8) (L' := [(8, .int (yV (young (letAll (incL T y) y).1))), (9, .int (nI (letAll (incL T y) y).2)), (7, .int (bI (fl || (y == m)))), (0, .ref a), (1, .int (nI m)), (4, .ref ft)]) dX1_wants_141 (by decide) rfl ?_
          refine x_goto (tgt := 83) dX1_wants_143 (by decide) ?_
          refine x_locs (L' := [(0, .ref a), (1, .int (nI m)), (4, .ref ft), (7, .int (bI (fl || (y == m)))), (8, .int (yV (young (letAll (incL T y) y).1)))]) [3, 4, 5, 2, 0] rfl ?_
          exact ih _ _ _ _ _ _ _ hao (by omega) hBT2 hIT2 hZT2 (hFI.let hIT hZT) (hL3.ro hR9) (hF9.tr_ro hR9) hQ9 (by omega) (by omega)
  refine x_aload_n dX1_wants_0 0 rfl rfl ?_
  refine x_iload_n dX1_wants_1 1 rfl rfl ?_
  refine x_iload_n dX1_wants_2 2 rfl rfl ?_
  refine x_iload_n dX1_wants_3 3 rfl rfl ?_
  refine x_callV dX1_wants_4 (con_X1_wish hL hI hm hs hk hr) (lw_V q1064 q1066 qs14 q86 q1067) (np := 3) (by decide +kernel) rfl (rcv_of vC_1 ho) ⟨Nat.le_of_ble_eq_true rfl, Nat.le_of_ble_eq_true rfl⟩ (Nat.le_of_ble_eq_true rfl) rfl (by omega) (by omega) (rA fun q σ28 h1 => ?_) nA'
  obtain ⟨hqn, hq, hR⟩ := h1
  have hq0 := hq
  have hL := hL.ro (hR)
  have ho := hL.o
  have hf1 := hf.ro hR
  have hk3 : k < 3 := by omega
  have slow : atOnce S m s k = false → X l yX1_wants cX1_wants 10 (some FieldType.int) [] G (yroom 13 (wantC S m s k) (5 * wantC S m s k)) (yEnd G (yroom 13 (wantC S m s k) (5 * wantC S m s k)) (PI fun z τ => z = nI (wA S m s k).2 ∧ PL a ad N σ (wX S m s k) τ)) 67 [(0, .ref a), (1, .int (nI m)), (2, .int (nI s)), (3, .int (bI b)), (4, .ref ft), (5, .ref q)] [] σ28 (wantC S m s k - 9) (5 * wantC S m s k - 48) := by
    intro hao
    rw [if_neg (by rw [hao]; exact fun z => by cases z)] at hwc
    refine x_aload_n dX1_wants_67 0 rfl rfl ?_
    refine x_iload_n dX1_wants_68 2 rfl rfl ?_
    refine x_aload dX1_wants_69 5 rfl ?_
    refine x_callV dX1_wants_71 (con_X1_waits hL hI hs hq (show (m, k, hw S m s == 1).1 < 24 from hm)) (lw_V q1114 q1116 qs18 q86 q1117) (np := 2) (by decide +kernel) rfl (rcv_of vC_1 ho) ⟨Nat.le_of_ble_eq_true rfl, Nat.le_of_ble_eq_true rfl⟩ (Nat.le_of_ble_eq_true rfl) rfl (by omega) (by omega) (rV fun σ29 h3 => ?_) nV'
    obtain ⟨N3, mc3, hL3, hF3, hQ3⟩ := h3
    rw [← hW] at hL3
    have hF9 : Fr (FP a ad N) σ σ29 := hR.fr.tr hF3 (fun _ hq => Or.inl hq)
    have hQ9 : ∀ q, FP a ad N3 q → FP a ad N q ∨ σ q = none := fun q hq => (hQ3 q hq).imp id (fun z => hR.nn z)
    have ho := hL3.o
    refine x_iconst (v := nI 0) dX1_wants_74 (by decide) ?_
    refine x_istore (i := 7) (L' := [(7, .int (nI 0)), (0, .ref a), (1, .int (nI m)), (2, .int (nI s)), (3, .int (bI b)), (4, .ref ft), (5, .ref q)]) dX1_wants_75 (by decide) rfl ?_
    refine x_aload_n dX1_wants_77 1 rfl rfl ?_
    refine x_callV dX1_wants_78 (con_X1_youngestInRing hL3 hIW) (lw_V q1126 q1128 qs19 q86 q1129) (np := 0) (by decide +kernel) rfl (rcv_of vC_1 ho) ⟨Nat.le_of_ble_eq_true rfl, Nat.le_of_ble_eq_true rfl⟩ (Nat.le_of_ble_eq_true rfl) rfl (by omega) (by omega) (rP fun σ31 hR9 => ?_) nI'
    refine x_istore (i := 8) (L' := [(8, .int (yV (young W))), (7, .int (nI 0)), (0, .ref a), (1, .int (nI m)), (2, .int (nI s)), (3, .int (bI b)), (4, .ref ft), (5, .ref q)]) dX1_wants_81 (by decide) rfl ?_
    refine x_locs (L' := [(0, .ref a), (1, .int (nI m)), (4, .ref ft), (7, .int (nI 0)), (8, .int (yV (young W)))]) [2, 3, 6, 1, 0] rfl ?_
    exact loop (nW W) W false _ _ _ _ _ hao (Nat.le_refl _) rfl hIW hZW ⟨(fun h => by cases h), fun _ => hWP⟩ (hL3.ro hR9) (hF9.tr_ro hR9) hQ9 (by omega) (by omega)
  have first : ((hw S m s == 1) || (qu S s).isEmpty) = true → X l yX1_wants cX1_wants 10 (some FieldType.int) [] G (yroom 13 (wantC S m s k) (5 * wantC S m s k)) (yEnd G (yroom 13 (wantC S m s k) (5 * wantC S m s k)) (PI fun z τ => z = nI (wA S m s k).2 ∧ PL a ad N σ (wX S m s k) τ)) 39 [(0, .ref a), (1, .int (nI m)), (2, .int (nI s)), (3, .int (bI b)), (4, .ref ft), (5, .ref q)] [.int (nI 1)] σ28 (wantC S m s k - 9) (5 * wantC S m s k - 48) := by
    intro hfi
    refine x_istore (i := 6) (L' := [(6, .int (nI 1)), (0, .ref a), (1, .int (nI m)), (2, .int (nI s)), (3, .int (bI b)), (4, .ref ft), (5, .ref q)]) dX1_wants_39 (by decide) rfl ?_
    refine x_iload dX1_wants_41 0 rfl ?_
    refine x_if_eq (tgt := 67) dX1_wants_43 (by decide) (fun h_ => absurd h_ (by decide)) (fun _ => ?_)
    refine x_aload_n dX1_wants_46 1 rfl rfl ?_
    refine x_iload_n dX1_wants_47 3 rfl rfl ?_
    refine x_aload dX1_wants_48 6 rfl ?_
    refine x_aload dX1_wants_50 5 rfl ?_
    refine x_callV dX1_wants_52 (con_X1_canHave hL hI hs hq hf1 hk3 hm) (lw_V q1098 q1100 qs15 q86 q1101) (np := 3) (by decide +kernel) rfl (rcv_of vC_1 ho) ⟨Nat.le_of_ble_eq_true rfl, Nat.le_of_ble_eq_true rfl⟩ (Nat.le_of_ble_eq_true rfl) rfl (Nat.zero_le _) (Nat.zero_le _) (rS ?_) nI'
    refine x_if_eq (tgt := 67) dX1_wants_55 (by decide) (fun c1 => ?_) (fun c1 => ?_)
    · have c1 := bI_0 c1
      have hao : atOnce S m s k = false := by unfold atOnce; rw [hfi, c1]; rfl
      refine x_locs (L' := [(0, .ref a), (1, .int (nI m)), (2, .int (nI s)), (3, .int (bI b)), (4, .ref ft), (5, .ref q)]) [1, 2, 3, 4, 5, 6] rfl ?_
      exact slow hao
    · have c1 := bI_1 c1
      have hao : atOnce S m s k = true := by unfold atOnce; rw [hfi, c1]; rfl
      have hA : wA S m s k = (giveW S s (m, k, hw S m s == 1), 2) := by unfold wA; rw [if_pos hao]
      have hX : wX S m s k = giveW S s (m, k, hw S m s == 1) := by unfold wX; rw [if_pos hao]
      refine x_aload_n dX1_wants_58 1 rfl rfl ?_
      refine x_iload_n dX1_wants_59 3 rfl rfl ?_
      refine x_aload dX1_wants_60 6 rfl ?_
      refine x_callV dX1_wants_62 (con_X1_gives hL hs hq hk3 hm) (lw_V q1110 q1112 qs17 q86 q1113) (np := 2) (by decide +kernel) rfl (rcv_of vC_1 ho) ⟨Nat.le_of_ble_eq_true rfl, Nat.le_of_ble_eq_true rfl⟩ (Nat.le_of_ble_eq_true rfl) rfl (Nat.zero_le _) (Nat.zero_le _) (rV fun σ33 h3 => ?_) nV'
      refine x_iconst (v := nI 2) dX1_wants_65 (by decide) ?_
      exact x_iret dX1_wants_66 rfl (⟨_, rfl, by rw [hA], by rw [hX]; exact PL.roThen hR h3⟩)
  refine x_astore (i := 5) (L' := [(5, .ref q), (0, .ref a), (1, .int (nI m)), (2, .int (nI s)), (3, .int (bI b)), (4, .ref ft)]) dX1_wants_7 (by decide) rfl ?_
  refine x_aload dX1_wants_9 0 rfl ?_
  refine x_getN dX1_wants_11 vC_4 in_X4 hq 2 (by decide) q1083 rfl ?_
  refine x_if_ne (tgt := 34) dX1_wants_14 (by decide) (fun c1 => ?_) (fun c1 => ?_)
  · have c1 := bI_1 c1
    have c1 : (hw S m s == 1) = true := c1
    refine x_iconst (v := nI 1) dX1_wants_34 (by decide) ?_
    refine x_goto (tgt := 39) dX1_wants_35 (by decide) ?_
    refine x_locs (L' := [(0, .ref a), (1, .int (nI m)), (2, .int (nI s)), (3, .int (bI b)), (4, .ref ft), (5, .ref q)]) [1, 2, 3, 4, 5, 0] rfl ?_
    exact first (by rw [c1]; rfl)
  · have c1 := bI_0 c1
    have c1 : (hw S m s == 1) = false := c1
    refine x_aload_n dX1_wants_17 1 rfl rfl ?_
    refine x_get dX1_wants_18 vC_1 in_X1 ho 1 (by decide) q279 rfl ?_
    refine x_iload_n dX1_wants_21 3 rfl rfl ?_
    refine x_callV dX1_wants_22 (con_J2_get hL.al (lYs_at hs)) (lw_V q407 q408 q409 q89 q410) (np := 1) (by decide +kernel) rfl hL.al.rc ⟨Nat.le_of_ble_eq_true rfl, Nat.le_of_ble_eq_true rfl⟩ (Nat.le_of_ble_eq_true rfl) rfl (Nat.zero_le _) (Nat.zero_le _) (rSA ?_) nA'
    refine x_ckcast dX1_wants_25 q183 (hL.ll hs).rc ?_
    refine x_callU dX1_wants_28 (con_J0_isEmpty (hL.ll hs)) (lw_U q1091 q1092 q1094 q1095 q87 q1096) rfl (np := 0) (by decide +kernel) rfl (hL.ll hs).rc ⟨Nat.le_of_ble_eq_true rfl, Nat.le_of_ble_eq_true rfl⟩ (Nat.le_of_ble_eq_true rfl) rfl (Nat.zero_le _) (Nat.zero_le _) (rS ?_) nI'
    refine x_if_eq (tgt := 38) dX1_wants_31 (by decide) (fun c2 => ?_) (fun c2 => ?_)
    · have c2 := bI_0 c2
      have hqe : (qu S s).isEmpty = false := by
        cases h : qu S s with
        | nil => have hz : N s = [] := List.eq_nil_of_length_eq_zero (by rw [hL.len hs, h]; rfl)
                 rw [hz] at c2; cases c2
        | cons x xs => rfl
      have hao : atOnce S m s k = false := by unfold atOnce; rw [c1, hqe]; rfl
      refine x_iconst (v := nI 0) dX1_wants_38 (by decide) ?_
      refine x_istore (i := 6) (L' := [(6, .int (nI 0)), (5, .ref q), (0, .ref a), (1, .int (nI m)), (2, .int (nI s)), (3, .int (bI b)), (4, .ref ft)]) dX1_wants_39 (by decide) rfl ?_
      refine x_iload dX1_wants_41 0 rfl ?_
      refine x_if_eq (tgt := 67) dX1_wants_43 (by decide) (fun _ => ?_) (fun h_ => absurd (rfl) h_)
      refine x_locs (L' := [(0, .ref a), (1, .int (nI m)), (2, .int (nI s)), (3, .int (bI b)), (4, .ref ft), (5, .ref q)]) [2, 3, 4, 5, 6, 1] rfl ?_
      exact slow hao
    · have c2 := bI_1 c2
      have hqe : (qu S s).isEmpty = true := by
        have hz : N s = [] := List.isEmpty_iff.mp c2
        rw [List.isEmpty_iff_length_eq_zero, ← hL.len hs, hz]; rfl
      refine x_iconst (v := nI 1) dX1_wants_34 (by decide) ?_
      refine x_goto (tgt := 39) dX1_wants_35 (by decide) ?_
      refine x_locs (L' := [(0, .ref a), (1, .int (nI m)), (2, .int (nI s)), (3, .int (bI b)), (4, .ref ft), (5, .ref q)]) [1, 2, 3, 4, 5, 0] rfl ?_
      exact first (by rw [hqe, Bool.or_true])
set_option maxHeartbeats 4000000 in
set_option maxRecDepth 100000 in
theorem con_X1_waiting_r {l : Launch} {G : YG} {σ : AH} {a : Nat} {ad : Nat → Nat} {N : Nat → NL} {mc : Nat → Int32} {S : AS} {m s k ft : Nat} {b : Bool} {r : Nat × Nat} (hL : LD σ a ad N mc S) (hI : IV S) (ht : tH S m = true) (hs : s < 8) (hk : k = if b then 2 else 1) (hr : bar S m s k = some r) : Con l yX1_waiting cX1_waiting 8 (some (FieldType.object "LarderLocks$Larder")) G 13 (61 + nW S) (457 + 3 * nW S) [.ref a, .int (nI m), .int (nI s), .int (bI b), .ref ft] σ (PT σ (nI r.1) (nI r.2)) := by
  refine con_of (by decide) (Nat.le_of_ble_eq_true rfl) ?_
  refine x_locs (L' := [(0, .ref a), (1, .int (nI m)), (2, .int (nI s)), (3, .int (bI b)), (4, .ref ft)]) [0, 1, 2, 3, 4] rfl ?_
  have ho := hL.o
  have hm : m < 24 := by have := hI.th ht; have := hI.c; omega
  refine x_aload_n dX1_waiting_0 0 rfl rfl ?_
  refine x_callV dX1_waiting_1 (con_X1_copy hL hI) (lw_V q1446 q402 q403 q86 q404) (np := 0) (by decide +kernel) rfl (rcv_of vC_1 ho) ⟨Nat.le_of_ble_eq_true rfl, Nat.le_of_ble_eq_true rfl⟩ (Nat.le_of_ble_eq_true rfl) rfl (by omega) (by omega) (rA fun o σ1 h1 => ?_) nA'
  obtain ⟨ad2, N2, mc2, hO, hQ, hR⟩ := h1
  have hoO := hO.o
  refine x_astore (i := 5) (L' := [(5, .ref o), (0, .ref a), (1, .int (nI m)), (2, .int (nI s)), (3, .int (bI b)), (4, .ref ft)]) dX1_waiting_4 (by decide) rfl ?_
  refine x_aload dX1_waiting_6 0 rfl ?_
  refine x_iload_n dX1_waiting_8 2 rfl rfl ?_
  refine x_iload_n dX1_waiting_9 3 rfl rfl ?_
  refine x_iload_n dX1_waiting_10 4 rfl rfl ?_
  refine x_callV dX1_waiting_11 (con_X1_wish_r hO hI hm hs hk hr) (lw_V q1064 q1066 qs14 q86 q1067) (np := 3) (by decide +kernel) rfl (rcv_of vC_1 hoO) ⟨Nat.le_of_ble_eq_true rfl, Nat.le_of_ble_eq_true rfl⟩ (Nat.le_of_ble_eq_true rfl) rfl (by omega) (by omega) rTn (fun E_ q_ σ2 hT_ => ?_)
  exact xt_out (fun z hz => by cases hz) (PT.ro hR hT_)
set_option maxHeartbeats 4000000 in
set_option maxRecDepth 100000 in
theorem con_X1_waiting {l : Launch} {G : YG} {σ : AH} {a : Nat} {ad : Nat → Nat} {N : Nat → NL} {mc : Nat → Int32} {S : AS} {m s k ft : Nat} {b : Bool} (hL : LD σ a ad N mc S) (hI : IV S) (ht : tH S m = true) (hs : s < 8) (hk : k = if b then 2 else 1) (hf : FT σ ft) (hr : bar S m s k = none) : Con l yX1_waiting cX1_waiting 8 (some (FieldType.object "LarderLocks$Larder")) G 13 (61 + nW S) (457 + 3 * nW S) [.ref a, .int (nI m), .int (nI s), .int (bI b), .ref ft] σ (PA fun o τ => CPo σ o (if atOnce S m s k = true then S else waitW S s (m, k, hw S m s == 1)) τ) := by
  refine con_of (by decide) (Nat.le_of_ble_eq_true rfl) ?_
  refine x_locs (L' := [(0, .ref a), (1, .int (nI m)), (2, .int (nI s)), (3, .int (bI b)), (4, .ref ft)]) [0, 1, 2, 3, 4] rfl ?_
  have ho := hL.o
  have hm : m < 24 := by have := hI.th ht; have := hI.c; omega
  have hf0 := hf
  have h2 := hI.2.2.1 m s
  have hk3 : k < 3 := by rw [hk]; cases b <;> decide
  refine x_aload_n dX1_waiting_0 0 rfl rfl ?_
  refine x_callV dX1_waiting_1 (con_X1_copy hL hI) (lw_V q1446 q402 q403 q86 q404) (np := 0) (by decide +kernel) rfl (rcv_of vC_1 ho) ⟨Nat.le_of_ble_eq_true rfl, Nat.le_of_ble_eq_true rfl⟩ (Nat.le_of_ble_eq_true rfl) rfl (by omega) (by omega) (rA fun o σ1 h1 => ?_) nA'
  obtain ⟨ad2, N2, mc2, hO, hQ, hR⟩ := h1
  have hoO := hO.o
  refine x_astore (i := 5) (L' := [(5, .ref o), (0, .ref a), (1, .int (nI m)), (2, .int (nI s)), (3, .int (bI b)), (4, .ref ft)]) dX1_waiting_4 (by decide) rfl ?_
  refine x_aload dX1_waiting_6 0 rfl ?_
  refine x_iload_n dX1_waiting_8 2 rfl rfl ?_
  refine x_iload_n dX1_waiting_9 3 rfl rfl ?_
  refine x_iload_n dX1_waiting_10 4 rfl rfl ?_
  refine x_callV dX1_waiting_11 (con_X1_wish hO hI hm hs hk hr) (lw_V q1064 q1066 qs14 q86 q1067) (np := 3) (by decide +kernel) rfl (rcv_of vC_1 hoO) ⟨Nat.le_of_ble_eq_true rfl, Nat.le_of_ble_eq_true rfl⟩ (Nat.le_of_ble_eq_true rfl) rfl (by omega) (by omega) (rA fun q σ2 h3 => ?_) nA'
  obtain ⟨hqn, hq, hR3⟩ := h3
  have hO := hO.ro hR3
  have hR := hR.tr hR3
  have hoO := hO.o
  have hf := hf0.ro hR
  have slow : atOnce S m s k = false → X l yX1_waiting cX1_waiting 8 (some (FieldType.object "LarderLocks$Larder")) [] G (yroom 13 (61 + nW S) (457 + 3 * nW S)) (yEnd G (yroom 13 (61 + nW S) (457 + 3 * nW S)) (PA fun o τ => CPo σ o (if atOnce S m s k = true then S else waitW S s (m, k, hw S m s == 1)) τ)) 67 [(0, .ref a), (1, .int (nI m)), (2, .int (nI s)), (3, .int (bI b)), (4, .ref ft), (5, .ref o), (6, .ref q)] [] σ2 (61 + nW S - (49 + nW S) - 9) (457 + 3 * nW S - (397 + 3 * nW S) - 48) := by
    intro hao
    rw [if_neg (by rw [hao]; exact fun z => by cases z)]
    refine x_aload dX1_waiting_67 5 rfl ?_
    refine x_iload_n dX1_waiting_69 2 rfl rfl ?_
    refine x_aload dX1_waiting_70 6 rfl ?_
    refine x_callV dX1_waiting_72 (con_X1_waits hO hI hs hq (show (m, k, hw S m s == 1).1 < 24 from hm)) (lw_V q1114 q1116 qs18 q86 q1117) (np := 2) (by decide +kernel) rfl (rcv_of vC_1 hoO) ⟨Nat.le_of_ble_eq_true rfl, Nat.le_of_ble_eq_true rfl⟩ (Nat.le_of_ble_eq_true rfl) rfl (by omega) (by omega) (rV fun σ3 h5 => ?_) nV'
    obtain ⟨N5, mc5, hO5, hQ5, hR5⟩ := CPo.st hR hQ h5
    refine x_aload dX1_waiting_75 5 rfl ?_
    exact x_aret dX1_waiting_77 rfl (by first | exact Or.inl ⟨_, rfl⟩ | exact Or.inr ⟨_, rfl⟩) (Or.inr ⟨_, rfl⟩) (⟨_, rfl, _, _, _, hO5, hQ5, hR5⟩)
  have first : ((hw S m s == 1) || (qu S s).isEmpty) = true → X l yX1_waiting cX1_waiting 8 (some (FieldType.object "LarderLocks$Larder")) [] G (yroom 13 (61 + nW S) (457 + 3 * nW S)) (yEnd G (yroom 13 (61 + nW S) (457 + 3 * nW S)) (PA fun o τ => CPo σ o (if atOnce S m s k = true then S else waitW S s (m, k, hw S m s == 1)) τ)) 47 [(0, .ref a), (1, .int (nI m)), (2, .int (nI s)), (3, .int (bI b)), (4, .ref ft), (5, .ref o), (6, .ref q)] [.int (nI 1)] σ2 (61 + nW S - (49 + nW S) - 9) (457 + 3 * nW S - (397 + 3 * nW S) - 48) := by
    intro hfi
    refine x_istore (i := 7) (L' := [(7, .int (nI 1)), (0, .ref a), (1, .int (nI m)), (2, .int (nI s)), (3, .int (bI b)), (4, .ref ft), (5, .ref o), (6, .ref q)]) dX1_waiting_47 (by decide) rfl ?_
    refine x_iload dX1_waiting_49 0 rfl ?_
    refine x_if_eq (tgt := 67) dX1_waiting_51 (by decide) (fun h_ => absurd h_ (by decide)) (fun _ => ?_)
    refine x_aload dX1_waiting_54 6 rfl ?_
    refine x_iload_n dX1_waiting_56 3 rfl rfl ?_
    refine x_aload dX1_waiting_57 7 rfl ?_
    refine x_aload dX1_waiting_59 5 rfl ?_
    refine x_callV dX1_waiting_61 (con_X1_canHave hO hI hs hq hf hk3 hm) (lw_V q1098 q1100 qs15 q86 q1101) (np := 3) (by decide +kernel) rfl (rcv_of vC_1 hoO) ⟨Nat.le_of_ble_eq_true rfl, Nat.le_of_ble_eq_true rfl⟩ (Nat.le_of_ble_eq_true rfl) rfl (Nat.zero_le _) (Nat.zero_le _) (rS ?_) nI'
    refine x_if_ne (tgt := 75) dX1_waiting_64 (by decide) (fun c1 => ?_) (fun c1 => ?_)
    · have c1 := bI_1 c1
      have hao : atOnce S m s k = true := by unfold atOnce; rw [hfi, c1]; rfl
      refine x_aload dX1_waiting_75 6 rfl ?_
      exact x_aret dX1_waiting_77 rfl (by first | exact Or.inl ⟨_, rfl⟩ | exact Or.inr ⟨_, rfl⟩) (Or.inr ⟨_, rfl⟩) (⟨_, rfl, by rw [if_pos hao]; exact ⟨_, _, _, hO, hQ, hR⟩⟩)
    · have c1 := bI_0 c1
      have hao : atOnce S m s k = false := by unfold atOnce; rw [hfi, c1]; rfl
      refine x_locs (L' := [(0, .ref a), (1, .int (nI m)), (2, .int (nI s)), (3, .int (bI b)), (4, .ref ft), (5, .ref o), (6, .ref q)]) [1, 2, 3, 4, 5, 6, 7] rfl ?_
      exact slow hao
  refine x_astore (i := 6) (L' := [(6, .ref q), (5, .ref o), (0, .ref a), (1, .int (nI m)), (2, .int (nI s)), (3, .int (bI b)), (4, .ref ft)]) dX1_waiting_14 (by decide) rfl ?_
  refine x_aload dX1_waiting_16 0 rfl ?_
  refine x_getN dX1_waiting_18 vC_4 in_X4 hq 2 (by decide) q1083 rfl ?_
  refine x_if_ne (tgt := 42) dX1_waiting_21 (by decide) (fun c1 => ?_) (fun c1 => ?_)
  · have c1 := bI_1 c1
    have c1 : (hw S m s == 1) = true := c1
    refine x_iconst (v := nI 1) dX1_waiting_42 (by decide) ?_
    refine x_goto (tgt := 47) dX1_waiting_43 (by decide) ?_
    refine x_locs (L' := [(0, .ref a), (1, .int (nI m)), (2, .int (nI s)), (3, .int (bI b)), (4, .ref ft), (5, .ref o), (6, .ref q)]) [2, 3, 4, 5, 6, 1, 0] rfl ?_
    exact first (by rw [c1]; rfl)
  · have c1 := bI_0 c1
    have c1 : (hw S m s == 1) = false := c1
    refine x_aload dX1_waiting_24 1 rfl ?_
    refine x_get dX1_waiting_26 vC_1 in_X1 hoO 1 (by decide) q279 rfl ?_
    refine x_iload_n dX1_waiting_29 4 rfl rfl ?_
    refine x_callV dX1_waiting_30 (con_J2_get hO.al (lYs_at hs)) (lw_V q407 q408 q409 q89 q410) (np := 1) (by decide +kernel) rfl hO.al.rc ⟨Nat.le_of_ble_eq_true rfl, Nat.le_of_ble_eq_true rfl⟩ (Nat.le_of_ble_eq_true rfl) rfl (Nat.zero_le _) (Nat.zero_le _) (rSA ?_) nA'
    refine x_ckcast dX1_waiting_33 q183 (hO.ll hs).rc ?_
    refine x_callU dX1_waiting_36 (con_J0_isEmpty (hO.ll hs)) (lw_U q1091 q1092 q1094 q1095 q87 q1096) rfl (np := 0) (by decide +kernel) rfl (hO.ll hs).rc ⟨Nat.le_of_ble_eq_true rfl, Nat.le_of_ble_eq_true rfl⟩ (Nat.le_of_ble_eq_true rfl) rfl (Nat.zero_le _) (Nat.zero_le _) (rS ?_) nI'
    refine x_if_eq (tgt := 46) dX1_waiting_39 (by decide) (fun c2 => ?_) (fun c2 => ?_)
    · have c2 := bI_0 c2
      have hqe : (qu S s).isEmpty = false := by
        cases h : qu S s with
        | nil => have hz : N2 s = [] := List.eq_nil_of_length_eq_zero (by rw [hO.len hs, h]; rfl)
                 rw [hz] at c2; cases c2
        | cons x xs => rfl
      have hao : atOnce S m s k = false := by unfold atOnce; rw [c1, hqe]; rfl
      refine x_iconst (v := nI 0) dX1_waiting_46 (by decide) ?_
      refine x_istore (i := 7) (L' := [(7, .int (nI 0)), (6, .ref q), (5, .ref o), (0, .ref a), (1, .int (nI m)), (2, .int (nI s)), (3, .int (bI b)), (4, .ref ft)]) dX1_waiting_47 (by decide) rfl ?_
      refine x_iload dX1_waiting_49 0 rfl ?_
      refine x_if_eq (tgt := 67) dX1_waiting_51 (by decide) (fun _ => ?_) (fun h_ => absurd (rfl) h_)
      refine x_locs (L' := [(0, .ref a), (1, .int (nI m)), (2, .int (nI s)), (3, .int (bI b)), (4, .ref ft), (5, .ref o), (6, .ref q)]) [3, 4, 5, 6, 7, 2, 1] rfl ?_
      exact slow hao
    · have c2 := bI_1 c2
      have hqe : (qu S s).isEmpty = true := by
        have hz : N2 s = [] := List.isEmpty_iff.mp c2
        rw [List.isEmpty_iff_length_eq_zero, ← hO.len hs, hz]; rfl
      refine x_iconst (v := nI 1) dX1_waiting_42 (by decide) ?_
      refine x_goto (tgt := 47) dX1_waiting_43 (by decide) ?_
      refine x_locs (L' := [(0, .ref a), (1, .int (nI m)), (2, .int (nI s)), (3, .int (bI b)), (4, .ref ft), (5, .ref o), (6, .ref q)]) [2, 3, 4, 5, 6, 1, 0] rfl ?_
      exact first (by rw [hqe, Bool.or_true])
