set_option maxRecDepth 100000
-- ===== a new larder =====
theorem ro_multi {σ : AH} {b : Nat} (h : ∀ q, b ≤ q → σ q = none) : RO σ (mUp σ b) := fun q e hq => by
  have : ¬ (b ≤ q ∧ q < b + 25) := fun z => by rw [h q z.1] at hq; cases hq
  unfold mUp
  rw [if_neg this]; exact hq
theorem mUp_o {σ : AH} {b : Nat} : mUp σ b b = some (mOut b) := by
  unfold mUp
  rw [if_pos ⟨Nat.le_refl _, by omega⟩, Nat.sub_self]
  rfl
theorem mUp_r {σ : AH} {b j : Nat} (h : j < 24) : mUp σ b (b + 1 + j) = some mRow := by
  unfold mUp
  rw [if_pos ⟨by omega, by omega⟩, show b + 1 + j - b = j + 1 by omega]
  unfold mEnt
  rw [if_neg (by omega)]
theorem Fr.keep {W : Nat → Prop} {σ τ υ : AH} (h : Fr W σ τ) (hu : ∀ r, σ r ≠ none → υ r = τ r) : Fr W σ υ := by
  have hs : ∀ {q e}, σ q = some e → σ q ≠ none := fun h z => by rw [h] at z; cases z
  exact ⟨fun q e hq hw => (hu q (hs hq)).trans (h.1 q e hq hw), fun q hq => by rw [hu q hq]; exact h.2.1 q hq, fun q e hq hi => (hu q (hs hq)).trans (h.2.2 q e hq hi)⟩
theorem ne_of_none {σ : AH} {r p : Nat} (hr : σ r ≠ none) (hp : σ p = none) : r ≠ p := fun e => hr (by rw [e]; exact hp)
def adOf (b rl el i2 i3 i4 i5 i6 : Nat) (ys : List Nat) (k : Nat) : Nat :=
  if k = 0 then b else if k = 1 then rl else if k = 2 then i2 else if k = 3 then i3 else if k = 4 then i4 else if k = 5 then i5 else if k = 6 then i6 else if k = 7 then el else if k < 20 then ys.getD (k - 10) 0 else b + 1 + (k - 20)
section MK0
variable {τ : AH} {a b rl el i2 i3 i4 i5 i6 : Nat} {ys : List Nat}
theorem adOf_l {s : Nat} (h : s < 8) : adOf b rl el i2 i3 i4 i5 i6 ys (10 + s) = ys.getD s 0 := by
  unfold adOf
  rw [if_neg (by omega), if_neg (by omega), if_neg (by omega), if_neg (by omega), if_neg (by omega), if_neg (by omega), if_neg (by omega), if_neg (by omega), if_pos (by omega), show 10 + s - 10 = s by omega]
theorem adOf_r {m : Nat} : adOf b rl el i2 i3 i4 i5 i6 ys (20 + m) = b + 1 + m := by
  unfold adOf
  rw [if_neg (by omega), if_neg (by omega), if_neg (by omega), if_neg (by omega), if_neg (by omega), if_neg (by omega), if_neg (by omega), if_neg (by omega), if_neg (by omega), show 20 + m - 20 = m by omega]
theorem lYs_of (hl : ys.length = 8) : lYs (adOf b rl el i2 i3 i4 i5 i6 ys) = ys := by
  apply List.ext_getElem?
  intro s
  by_cases h : s < 8
  · rw [lYs_at h, adOf_l h, List.getD_eq_getElem?_getD]
    obtain ⟨x, hx⟩ : ∃ x, ys[s]? = some x := ⟨_, List.getElem?_eq_getElem (by omega)⟩
    rw [hx]; rfl
  · rw [List.getElem?_eq_none (by rw [lYs_len]; omega), List.getElem?_eq_none (by omega)]
theorem getD_at {s : Nat} (h : s < ys.length) : ys[s]? = some (ys.getD s 0) := by
  obtain ⟨x, hx⟩ : ∃ x, ys[s]? = some x := ⟨_, List.getElem?_eq_getElem h⟩
  rw [List.getD_eq_getElem?_getD, hx]; rfl
theorem LD.mk0 (h1 : τ a = some (.inr (1, [.ref b, .ref rl, .ref i2, .ref i3, .ref i4, .ref i5, .ref i6, .int 0, .int 0, .int 0]))) (h2 : τ b = some (mOut b)) (h3 : ∀ j, j < 24 → τ (b + 1 + j) = some mRow)
    (g2 : τ i2 = some (.inl (0, 24, .inl (fun _ => 0)))) (g3 : τ i3 = some (.inl (0, 24, .inl (fun _ => 0)))) (g4 : τ i4 = some (.inl (0, 24, .inl (fun _ => 0)))) (g5 : τ i5 = some (.inl (0, 8, .inl (fun _ => 0)))) (g6 : τ i6 = some (.inl (0, 8, .inl (fun _ => 0))))
    (n23 : i2 ≠ i3) (n24 : i2 ≠ i4) (n25 : i2 ≠ i5) (n26 : i2 ≠ i6) (n34 : i3 ≠ i4) (n35 : i3 ≠ i5) (n36 : i3 ≠ i6) (n45 : i4 ≠ i5) (n46 : i4 ≠ i6) (n56 : i5 ≠ i6)
    (hA : AL τ rl el 8 ys) (hl : ys.length = 8) (hy : ∀ y ∈ ys, LL τ y 0 []) (hn : ys.Nodup) : LD τ a (adOf b rl el i2 i3 i4 i5 i6 ys) (fun _ => []) (fun _ => 0) AS0 := by
  refine ⟨?_, ⟨_, h2, fun j hj => by rw [adOf_r]⟩, fun m hm => ⟨_, by rw [adOf_r]; exact h3 m hm, fun j _ => rfl⟩, by rw [lYs_of hl]; exact hA, fun i hi => ?_, fun s hs => ⟨?_, rfl, fun i x w hx => by cases hx⟩, fun i j hi hj e => ?_, fun i j hi hj e => ?_, fun i j hi hj e => ?_, fun _ _ _ _ x hx => by cases hx⟩
  · rw [h1]
    have : encB (tH AS0) = 0 := BS.zero.enc.symm
    show _ = some (Sum.inr (1, [Value.ref b, Value.ref rl, Value.ref i2, Value.ref i3, Value.ref i4, Value.ref i5, Value.ref i6, Value.int (encB (tH AS0)), Value.int (nI 0), Value.int (nI 0)]))
    rw [this]; rfl
  · match i, hi with
    | 0, _ => exact ⟨_, g2, fun _ _ => rfl⟩
    | 1, _ => exact ⟨_, g3, fun _ _ => rfl⟩
    | 2, _ => exact ⟨_, g4, fun _ _ => rfl⟩
    | 3, _ => exact ⟨_, g5, fun _ _ => rfl⟩
    | 4, _ => exact ⟨_, g6, fun _ _ => rfl⟩
  · rw [adOf_l hs]; exact hy _ (List.mem_of_getElem? (getD_at (by omega)))
  · rw [adOf_r, adOf_r] at e; omega
  · match i, j, hi, hj, e with
    | 0, 0, _, _, _ => rfl
    | 0, 1, _, _, e => exact absurd e n23
    | 0, 2, _, _, e => exact absurd e n24
    | 0, 3, _, _, e => exact absurd e n25
    | 0, 4, _, _, e => exact absurd e n26
    | 1, 0, _, _, e => exact absurd e.symm n23
    | 1, 1, _, _, _ => rfl
    | 1, 2, _, _, e => exact absurd e n34
    | 1, 3, _, _, e => exact absurd e n35
    | 1, 4, _, _, e => exact absurd e n36
    | 2, 0, _, _, e => exact absurd e.symm n24
    | 2, 1, _, _, e => exact absurd e.symm n34
    | 2, 2, _, _, _ => rfl
    | 2, 3, _, _, e => exact absurd e n45
    | 2, 4, _, _, e => exact absurd e n46
    | 3, 0, _, _, e => exact absurd e.symm n25
    | 3, 1, _, _, e => exact absurd e.symm n35
    | 3, 2, _, _, e => exact absurd e.symm n45
    | 3, 3, _, _, _ => rfl
    | 3, 4, _, _, e => exact absurd e n56
    | 4, 0, _, _, e => exact absurd e.symm n26
    | 4, 1, _, _, e => exact absurd e.symm n36
    | 4, 2, _, _, e => exact absurd e.symm n46
    | 4, 3, _, _, e => exact absurd e.symm n56
    | 4, 4, _, _, _ => rfl
  · rw [adOf_l hi, adOf_l hj] at e
    have hi2 : i < ys.length := by omega
    have hj2 : j < ys.length := by omega
    have e2 : ys[i] = ys[j] := by
      have h1 := getD_at hi2
      have h2 := getD_at hj2
      rw [List.getElem?_eq_getElem hi2] at h1
      rw [List.getElem?_eq_getElem hj2] at h2
      rw [Option.some.inj h1, Option.some.inj h2, e]
    exact (List.getElem_inj (h₀ := hi2) (h₁ := hj2) hn).mp e2
theorem FP.mk0 {q : Nat} (hl : ys.length = 8) (h : FP a (adOf b rl el i2 i3 i4 i5 i6 ys) (fun _ => []) q) : q = a ∨ (b ≤ q ∧ q < b + 25) ∨ q = rl ∨ q = el ∨ q = i2 ∨ q = i3 ∨ q = i4 ∨ q = i5 ∨ q = i6 ∨ q ∈ ys := by
  rcases h with h | ⟨k, hk, h⟩ | ⟨k, hk, h⟩ | ⟨s, hs, h⟩
  · exact Or.inl h
  · right
    match k, hk, h with
    | 0, _, h => left; have h : q = b := h; omega
    | 1, _, h => exact Or.inr (Or.inl h)
    | 2, _, h => exact Or.inr (Or.inr (Or.inr (Or.inl h)))
    | 3, _, h => exact Or.inr (Or.inr (Or.inr (Or.inr (Or.inl h))))
    | 4, _, h => exact Or.inr (Or.inr (Or.inr (Or.inr (Or.inr (Or.inl h)))))
    | 5, _, h => exact Or.inr (Or.inr (Or.inr (Or.inr (Or.inr (Or.inr (Or.inl h))))))
    | 6, _, h => exact Or.inr (Or.inr (Or.inr (Or.inr (Or.inr (Or.inr (Or.inr (Or.inl h)))))))
    | 7, _, h => exact Or.inr (Or.inr (Or.inl h))
  · rw [adOf_r] at h; right; left; omega
  · rcases h with h | ⟨x, hx, _⟩
    · rw [adOf_l hs] at h
      exact Or.inr (Or.inr (Or.inr (Or.inr (Or.inr (Or.inr (Or.inr (Or.inr (Or.inr (h ▸ List.mem_of_getElem? (getD_at (by omega)))))))))))
    · cases hx
end MK0
set_option maxHeartbeats 4000000 in
set_option maxRecDepth 100000 in
theorem con_X1_init {l : Launch} {G : YG} {σ : AH} {a : Nat} (ha : σ a = some (.inr (1, [.null, .null, .null, .null, .null, .null, .null, .int 0, .int 0, .int 0]))) : Con l yX1_init cX1_init 2 none G 6 40 347 [.ref a] σ (PV fun τ => ∃ ad N mc, LD τ a ad N mc AS0 ∧ Fr (fun q => q = a) σ τ ∧ ∀ q, FP a ad N q → q = a ∨ σ q = none) := by
  refine con_of (by decide) (Nat.le_of_ble_eq_true rfl) ?_
  refine x_locs (L' := [(0, .ref a)]) [0] rfl ?_
  refine x_aload_n dX1_init_0 0 rfl rfl ?_
  refine x_objInit dX1_init_1 q144 q135 q136 ⟨by first | exact Nat.le_of_ble_eq_true rfl | (unfold yroom; simp only; omega), by first | exact Nat.le_of_ble_eq_true rfl | (unfold yroom; simp only; omega)⟩ rfl ?_
  refine x_aload_n dX1_init_4 0 rfl rfl ?_
  refine x_bipush (v := nI 24) dX1_init_5 (by decide) ?_
  refine x_bipush (v := nI 8) dX1_init_7 (by decide) ?_
  refine x_top (x' := 8) rfl ?_
  refine x_top2 (x' := 24) rfl ?_
  refine x_multi dX1_init_9 q145 q146 q182 (by omega) (by omega) (fun b hb hbn => ?_)
  have hro := ro_multi hbn
  have hmo := mUp_o (σ := σ) (b := b)
  have hmr := fun (j : Nat) (hj : j < 24) => mUp_r (σ := σ) (b := b) hj
  obtain ⟨σb, hσb⟩ : ∃ s, s = mUp σ b := ⟨_, rfl⟩
  rw [← hσb] at hro hmo hmr
  rw [← hσb]
  have ha := hro _ _ ha
  have ha1 := ha
  have hF : Fr (fun q => q = a) σb σb := Fr.rf
  refine x_putF (fs' := [.ref b, .null, .null, .null, .null, .null, .null, .int 0, .int 0, .int 0]) dX1_init_13 vC_1 in_X1 tyX1_ok nmX1 ha 0 (by decide) q277 rfl rfl rfl rfl (rfl) (rfl) (Nat.le_of_ble_eq_true rfl) rfl (fun σ1 hc3 hu2 => ?_)
  have hmo := at_put hu2 hmo (cell_ne ha hmo rfl)
  have hF := Fr.put hF hc3 hu2 (Or.inl ⟨rfl, fun e he => by rw [ha] at he; cases he; rfl⟩)
  refine x_aload_n dX1_init_16 0 rfl rfl ?_
  refine x_new (fs := [.int 0, .null, .int 0]) dX1_init_17 vC_10 in_J2 tyJ2_ok q147 q148 q89 rfl (by omega) (by omega) (fun rl σ4 hn5 hb6 hc7 hu8 => ?_)
  have n_a_rl : a ≠ rl := cell_nn hn5 hc3
  have hc3 := ro_new hn5 hu8 _ _ hc3
  have n_b_rl : b ≠ rl := cell_nn hn5 hmo
  have hmo := ro_new hn5 hu8 _ _ hmo
  have hn50 := Fr.nn hF hn5
  have hF := Fr.tr_ro hF (ro_new hn5 hu8)
  refine x_dup dX1_init_20 rfl ?_
  refine x_bipush (v := nI 8) dX1_init_21 (by decide) ?_
  refine x_callI dX1_init_23 (con_J2_init hc7) (lw_meth q151) q89 q149 q150 rfl (np := 1) (by decide +kernel) rfl ⟨Nat.le_of_ble_eq_true rfl, Nat.le_of_ble_eq_true rfl⟩ (Nat.le_of_ble_eq_true rfl) rfl (by omega) (by omega) (rV fun σ9 h1 => ?_) nV'
  obtain ⟨el, eln, hA, hAu⟩ := h1
  have eln0 := hF.nn eln
  have hF := hF.keep (fun r hr => hAu r (hF.2.1 r hr) (ne_of_none hr hn50))
  have hc3 := (hAu a (by rw [hc3]; exact fun z => by cases z) n_a_rl).trans hc3
  have hmo := (hAu b (by rw [hmo]; exact fun z => by cases z) n_b_rl).trans hmo
  obtain ⟨hrl, ⟨fel, hel, hfe⟩, hle⟩ := hA
  have n_a_el : a ≠ el := cell_ne hel hc3 rfl
  refine x_putF (fs' := [.ref b, .ref rl, .null, .null, .null, .null, .null, .int 0, .int 0, .int 0]) dX1_init_26 vC_1 in_X1 tyX1_ok nmX1 hc3 1 (by decide) q279 rfl rfl rfl rfl (rfl) (rfl) (Nat.le_of_ble_eq_true rfl) rfl (fun σ11 hc13 hu12 => ?_)
  have hmo := at_put hu12 hmo (cell_ne hc3 hmo rfl)
  have hrl := at_put hu12 hrl (cell_ne hc3 hrl rfl)
  have hel := at_put hu12 hel (cell_ne hc3 hel rfl)
  have hF := Fr.put hF hc13 hu12 (Or.inl ⟨rfl, fun e he => by rw [hc3] at he; cases he; rfl⟩)
  refine x_aload_n dX1_init_29 0 rfl rfl ?_
  refine x_bipush (v := nI 24) dX1_init_30 (by decide) ?_
  refine x_newi (N := 24) dX1_init_32 q204 rfl (by first | omega | decide) (by omega) (by omega) (fun i2 σ14 hn15 hb16 hc17 hu18 => ?_)
  have n_a_i2 : a ≠ i2 := cell_nn hn15 hc13
  have hc13 := ro_new hn15 hu18 _ _ hc13
  have n_b_i2 : b ≠ i2 := cell_nn hn15 hmo
  have hmo := ro_new hn15 hu18 _ _ hmo
  have n_rl_i2 : rl ≠ i2 := cell_nn hn15 hrl
  have hrl := ro_new hn15 hu18 _ _ hrl
  have n_el_i2 : el ≠ i2 := cell_nn hn15 hel
  have hel := ro_new hn15 hu18 _ _ hel
  have hn150 := Fr.nn hF hn15
  have hF := Fr.tr_ro hF (ro_new hn15 hu18)
  refine x_putF (fs' := [.ref b, .ref rl, .ref i2, .null, .null, .null, .null, .int 0, .int 0, .int 0]) dX1_init_34 vC_1 in_X1 tyX1_ok nmX1 hc13 2 (by decide) q281 rfl rfl rfl rfl (rfl) (rfl) (Nat.le_of_ble_eq_true rfl) rfl (fun σ19 hc21 hu20 => ?_)
  have hmo := at_put hu20 hmo (cell_ne hc13 hmo rfl)
  have hrl := at_put hu20 hrl (cell_ne hc13 hrl rfl)
  have hel := at_put hu20 hel (cell_ne hc13 hel rfl)
  have hc17 := at_put hu20 hc17 (cell_ne hc13 hc17 rfl)
  have hF := Fr.put hF hc21 hu20 (Or.inl ⟨rfl, fun e he => by rw [hc13] at he; cases he; rfl⟩)
  refine x_aload_n dX1_init_37 0 rfl rfl ?_
  refine x_bipush (v := nI 24) dX1_init_38 (by decide) ?_
  refine x_newi (N := 24) dX1_init_40 q204 rfl (by first | omega | decide) (by omega) (by omega) (fun i3 σ22 hn23 hb24 hc25 hu26 => ?_)
  have n_a_i3 : a ≠ i3 := cell_nn hn23 hc21
  have hc21 := ro_new hn23 hu26 _ _ hc21
  have n_b_i3 : b ≠ i3 := cell_nn hn23 hmo
  have hmo := ro_new hn23 hu26 _ _ hmo
  have n_rl_i3 : rl ≠ i3 := cell_nn hn23 hrl
  have hrl := ro_new hn23 hu26 _ _ hrl
  have n_el_i3 : el ≠ i3 := cell_nn hn23 hel
  have hel := ro_new hn23 hu26 _ _ hel
  have n_i2_i3 : i2 ≠ i3 := cell_nn hn23 hc17
  have hc17 := ro_new hn23 hu26 _ _ hc17
  have hn230 := Fr.nn hF hn23
  have hF := Fr.tr_ro hF (ro_new hn23 hu26)
  refine x_putF (fs' := [.ref b, .ref rl, .ref i2, .ref i3, .null, .null, .null, .int 0, .int 0, .int 0]) dX1_init_42 vC_1 in_X1 tyX1_ok nmX1 hc21 3 (by decide) q283 rfl rfl rfl rfl (rfl) (rfl) (Nat.le_of_ble_eq_true rfl) rfl (fun σ27 hc29 hu28 => ?_)
  have hmo := at_put hu28 hmo (cell_ne hc21 hmo rfl)
  have hrl := at_put hu28 hrl (cell_ne hc21 hrl rfl)
  have hel := at_put hu28 hel (cell_ne hc21 hel rfl)
  have hc17 := at_put hu28 hc17 (cell_ne hc21 hc17 rfl)
  have hc25 := at_put hu28 hc25 (cell_ne hc21 hc25 rfl)
  have hF := Fr.put hF hc29 hu28 (Or.inl ⟨rfl, fun e he => by rw [hc21] at he; cases he; rfl⟩)
  refine x_aload_n dX1_init_45 0 rfl rfl ?_
  refine x_bipush (v := nI 24) dX1_init_46 (by decide) ?_
  refine x_newi (N := 24) dX1_init_48 q204 rfl (by first | omega | decide) (by omega) (by omega) (fun i4 σ30 hn31 hb32 hc33 hu34 => ?_)
  have n_a_i4 : a ≠ i4 := cell_nn hn31 hc29
  have hc29 := ro_new hn31 hu34 _ _ hc29
  have n_b_i4 : b ≠ i4 := cell_nn hn31 hmo
  have hmo := ro_new hn31 hu34 _ _ hmo
  have n_rl_i4 : rl ≠ i4 := cell_nn hn31 hrl
  have hrl := ro_new hn31 hu34 _ _ hrl
  have n_el_i4 : el ≠ i4 := cell_nn hn31 hel
  have hel := ro_new hn31 hu34 _ _ hel
  have n_i2_i4 : i2 ≠ i4 := cell_nn hn31 hc17
  have hc17 := ro_new hn31 hu34 _ _ hc17
  have n_i3_i4 : i3 ≠ i4 := cell_nn hn31 hc25
  have hc25 := ro_new hn31 hu34 _ _ hc25
  have hn310 := Fr.nn hF hn31
  have hF := Fr.tr_ro hF (ro_new hn31 hu34)
  refine x_putF (fs' := [.ref b, .ref rl, .ref i2, .ref i3, .ref i4, .null, .null, .int 0, .int 0, .int 0]) dX1_init_50 vC_1 in_X1 tyX1_ok nmX1 hc29 4 (by decide) q285 rfl rfl rfl rfl (rfl) (rfl) (Nat.le_of_ble_eq_true rfl) rfl (fun σ35 hc37 hu36 => ?_)
  have hmo := at_put hu36 hmo (cell_ne hc29 hmo rfl)
  have hrl := at_put hu36 hrl (cell_ne hc29 hrl rfl)
  have hel := at_put hu36 hel (cell_ne hc29 hel rfl)
  have hc17 := at_put hu36 hc17 (cell_ne hc29 hc17 rfl)
  have hc25 := at_put hu36 hc25 (cell_ne hc29 hc25 rfl)
  have hc33 := at_put hu36 hc33 (cell_ne hc29 hc33 rfl)
  have hF := Fr.put hF hc37 hu36 (Or.inl ⟨rfl, fun e he => by rw [hc29] at he; cases he; rfl⟩)
  refine x_aload_n dX1_init_53 0 rfl rfl ?_
  refine x_bipush (v := nI 8) dX1_init_54 (by decide) ?_
  refine x_newi (N := 8) dX1_init_56 q204 rfl (by first | omega | decide) (by omega) (by omega) (fun i5 σ38 hn39 hb40 hc41 hu42 => ?_)
  have n_a_i5 : a ≠ i5 := cell_nn hn39 hc37
  have hc37 := ro_new hn39 hu42 _ _ hc37
  have n_b_i5 : b ≠ i5 := cell_nn hn39 hmo
  have hmo := ro_new hn39 hu42 _ _ hmo
  have n_rl_i5 : rl ≠ i5 := cell_nn hn39 hrl
  have hrl := ro_new hn39 hu42 _ _ hrl
  have n_el_i5 : el ≠ i5 := cell_nn hn39 hel
  have hel := ro_new hn39 hu42 _ _ hel
  have n_i2_i5 : i2 ≠ i5 := cell_nn hn39 hc17
  have hc17 := ro_new hn39 hu42 _ _ hc17
  have n_i3_i5 : i3 ≠ i5 := cell_nn hn39 hc25
  have hc25 := ro_new hn39 hu42 _ _ hc25
  have n_i4_i5 : i4 ≠ i5 := cell_nn hn39 hc33
  have hc33 := ro_new hn39 hu42 _ _ hc33
  have hn390 := Fr.nn hF hn39
  have hF := Fr.tr_ro hF (ro_new hn39 hu42)
  refine x_putF (fs' := [.ref b, .ref rl, .ref i2, .ref i3, .ref i4, .ref i5, .null, .int 0, .int 0, .int 0]) dX1_init_58 vC_1 in_X1 tyX1_ok nmX1 hc37 5 (by decide) q286 rfl rfl rfl rfl (rfl) (rfl) (Nat.le_of_ble_eq_true rfl) rfl (fun σ43 hc45 hu44 => ?_)
  have hmo := at_put hu44 hmo (cell_ne hc37 hmo rfl)
  have hrl := at_put hu44 hrl (cell_ne hc37 hrl rfl)
  have hel := at_put hu44 hel (cell_ne hc37 hel rfl)
  have hc17 := at_put hu44 hc17 (cell_ne hc37 hc17 rfl)
  have hc25 := at_put hu44 hc25 (cell_ne hc37 hc25 rfl)
  have hc33 := at_put hu44 hc33 (cell_ne hc37 hc33 rfl)
  have hc41 := at_put hu44 hc41 (cell_ne hc37 hc41 rfl)
  have hF := Fr.put hF hc45 hu44 (Or.inl ⟨rfl, fun e he => by rw [hc37] at he; cases he; rfl⟩)
  refine x_aload_n dX1_init_61 0 rfl rfl ?_
  refine x_bipush (v := nI 8) dX1_init_62 (by decide) ?_
  refine x_newi (N := 8) dX1_init_64 q204 rfl (by first | omega | decide) (by omega) (by omega) (fun i6 σ46 hn47 hb48 hc49 hu50 => ?_)
  have n_a_i6 : a ≠ i6 := cell_nn hn47 hc45
  have hc45 := ro_new hn47 hu50 _ _ hc45
  have n_b_i6 : b ≠ i6 := cell_nn hn47 hmo
  have hmo := ro_new hn47 hu50 _ _ hmo
  have n_rl_i6 : rl ≠ i6 := cell_nn hn47 hrl
  have hrl := ro_new hn47 hu50 _ _ hrl
  have n_el_i6 : el ≠ i6 := cell_nn hn47 hel
  have hel := ro_new hn47 hu50 _ _ hel
  have n_i2_i6 : i2 ≠ i6 := cell_nn hn47 hc17
  have hc17 := ro_new hn47 hu50 _ _ hc17
  have n_i3_i6 : i3 ≠ i6 := cell_nn hn47 hc25
  have hc25 := ro_new hn47 hu50 _ _ hc25
  have n_i4_i6 : i4 ≠ i6 := cell_nn hn47 hc33
  have hc33 := ro_new hn47 hu50 _ _ hc33
  have n_i5_i6 : i5 ≠ i6 := cell_nn hn47 hc41
  have hc41 := ro_new hn47 hu50 _ _ hc41
  have hn470 := Fr.nn hF hn47
  have hF := Fr.tr_ro hF (ro_new hn47 hu50)
  refine x_putF (fs' := [.ref b, .ref rl, .ref i2, .ref i3, .ref i4, .ref i5, .ref i6, .int 0, .int 0, .int 0]) dX1_init_66 vC_1 in_X1 tyX1_ok nmX1 hc45 6 (by decide) q288 rfl rfl rfl rfl (rfl) (rfl) (Nat.le_of_ble_eq_true rfl) rfl (fun σ51 hc53 hu52 => ?_)
  have hmo := at_put hu52 hmo (cell_ne hc45 hmo rfl)
  have hrl := at_put hu52 hrl (cell_ne hc45 hrl rfl)
  have hel := at_put hu52 hel (cell_ne hc45 hel rfl)
  have hc17 := at_put hu52 hc17 (cell_ne hc45 hc17 rfl)
  have hc25 := at_put hu52 hc25 (cell_ne hc45 hc25 rfl)
  have hc33 := at_put hu52 hc33 (cell_ne hc45 hc33 rfl)
  have hc41 := at_put hu52 hc41 (cell_ne hc45 hc41 rfl)
  have hc49 := at_put hu52 hc49 (cell_ne hc45 hc49 rfl)
  have hF := Fr.put hF hc53 hu52 (Or.inl ⟨rfl, fun e he => by rw [hc45] at he; cases he; rfl⟩)
  refine x_iconst (v := nI 0) dX1_init_69 (by decide) ?_
  refine x_istore_n (i := 1) (L' := [(1, .int (nI 0)), (0, .ref a)]) dX1_init_70 rfl (by decide) rfl ?_
  refine x_locs (L' := [(0, .ref a), (1, .int (nI 0))]) [1, 0] rfl ?_
  have haL := hc53
  have hAL : AL σ51 rl el (nI 0) [] := ⟨hrl, ⟨fel, hel, hfe⟩, Nat.zero_le _⟩
  suffices loop : ∀ (d s : Nat) (τ : AH) (ys : List Nat) (k n : Nat), s + d = 8 → AL τ rl el (nI s) ys → ys.length = s → (∀ y ∈ ys, LL τ y 0 [] ∧ σ51 y = none) → ys.Nodup → (∀ r, σ51 r ≠ none → r ≠ rl → r ≠ el → τ r = σ51 r) → d ≤ k → d * 4 ≤ n → X l yX1_init cX1_init 2 none [] G (yroom 6 40 347) (yEnd G (yroom 6 40 347) (PV fun τ => ∃ ad N mc, LD τ a ad N mc AS0 ∧ Fr (fun q => q = a) σ τ ∧ ∀ q, FP a ad N q → q = a ∨ σ q = none)) 71 [(0, .ref a), (1, .int (nI s))] [] τ k n from loop 8 0 _ [] _ _ rfl hAL rfl (fun _ h => by cases h) List.nodup_nil (fun _ _ _ _ => rfl) (by omega) (by omega)
  intro d
  induction d with
  | zero =>
    intro s τ ys k n hsd hA hys hy hnd hk hk0 hn0
    have hs8 : s = 8 := by omega
    subst hs8
    have hA8 : AL τ rl el 8 ys := by
      have h := hA
      rw [show nI 8 = 8 from by decide] at h
      exact h
    have hnn : ∀ {q e}, σ51 q = some e → σ51 q ≠ none := fun h z => by rw [h] at z; cases z
    refine x_iload_n dX1_init_71 1 rfl rfl ?_
    refine x_bipush (v := nI 8) dX1_init_72 (by decide) ?_
    refine x_icmp_ge (tgt := 98) dX1_init_74 (by decide) (fun _ => ?_) (fun h_ => absurd (by decide) h_)
    have hFT : Fr (fun q => q = a) σb τ := ⟨fun q e hq hw => ?_, fun q hq => ?_, fun q e hq hi => ?_⟩
    · refine x_vret dX1_init_98 rfl ⟨rfl, _, _, _, LD.mk0 ((hk a (hnn haL) (cell_ne hrl haL rfl) (cell_ne hel haL rfl)).trans haL) ((hk b (hnn hmo) (cell_ne hrl hmo rfl) (cell_ne hel hmo rfl)).trans hmo) (fun j hj => ?_) ((hk i2 (hnn hc17) (cell_ne hrl hc17 rfl) (cell_ne hel hc17 rfl)).trans hc17) ((hk i3 (hnn hc25) (cell_ne hrl hc25 rfl) (cell_ne hel hc25 rfl)).trans hc25) ((hk i4 (hnn hc33) (cell_ne hrl hc33 rfl) (cell_ne hel hc33 rfl)).trans hc33) ((hk i5 (hnn hc41) (cell_ne hrl hc41 rfl) (cell_ne hel hc41 rfl)).trans hc41) ((hk i6 (hnn hc49) (cell_ne hrl hc49 rfl) (cell_ne hel hc49 rfl)).trans hc49) n_i2_i3 n_i2_i4 n_i2_i5 n_i2_i6 n_i3_i4 n_i3_i5 n_i3_i6 n_i4_i5 n_i4_i6 n_i5_i6 hA8 hys (fun y h => (hy y h).1) hnd, hro.fr.tr hFT (fun q hq => Or.inl hq), fun q hq => ?_⟩
      · refine hFT.1 _ _ (hmr j hj) (fun e => ?_)
        have := hmr j hj
        rw [e, ha1] at this
        cases this
      · rcases FP.mk0 hys hq with h | h | h | h | h | h | h | h | h | h
        · exact Or.inl h
        · exact Or.inr (hbn q h.1)
        · exact Or.inr (by rw [h]; exact hro.nn hn50)
        · exact Or.inr (by rw [h]; exact hro.nn eln0)
        · exact Or.inr (by rw [h]; exact hro.nn hn150)
        · exact Or.inr (by rw [h]; exact hro.nn hn230)
        · exact Or.inr (by rw [h]; exact hro.nn hn310)
        · exact Or.inr (by rw [h]; exact hro.nn hn390)
        · exact Or.inr (by rw [h]; exact hro.nn hn470)
        · exact Or.inr (hro.nn (hF.nn (hy q h).2))
    · have hq2 := hF.1 q e hq hw
      rw [hk q (hnn hq2) (ne_of_none (fun z => by rw [hq] at z; cases z) hn50) (ne_of_none (fun z => by rw [hq] at z; cases z) eln0)]; exact hq2
    · have hq2 := hF.2.1 q hq
      rw [hk q hq2 (ne_of_none hq hn50) (ne_of_none hq eln0)]; exact hq2
    · have hq2 := hF.2.2 q e hq hi
      rw [hk q (hnn hq2) (ne_of_none (fun z => by rw [hq] at z; cases z) hn50) (ne_of_none (fun z => by rw [hq] at z; cases z) eln0)]; exact hq2
  | succ d ih =>
    intro s τ ys k n hsd hA hys hy hnd hk hk0 hn0
    have hnn : ∀ {q e}, σ51 q = some e → σ51 q ≠ none := fun h z => by rw [h] at z; cases z
    have haT := ((hk a (hnn haL) (cell_ne hrl haL rfl) (cell_ne hel haL rfl)).trans haL)
    refine x_iload_n dX1_init_71 1 rfl rfl ?_
    refine x_bipush (v := nI 8) dX1_init_72 (by decide) ?_
    refine x_icmp_ge (tgt := 98) dX1_init_74 (by decide) (fun h_ => absurd h_ (fun h => absurd (nLe (by omega) (by omega) h) (by omega))) (fun _ => ?_)
    refine x_aload_n dX1_init_77 0 rfl rfl ?_
    refine x_get dX1_init_78 vC_1 in_X1 haT 1 (by decide) q279 rfl ?_
    refine x_new (fs := [.int 0, .int 0, .null, .null]) dX1_init_81 vC_11 in_J4 tyJ4_ok q183 q184 q91 rfl (by omega) (by omega) (fun l σ54 hn55 hb56 hc57 hu58 => ?_)
    have haT := ro_new hn55 hu58 _ _ haT
    refine x_dup dX1_init_84 rfl ?_
    refine x_callI dX1_init_85 (con_J4_init hc57) (lw_meth q187) q91 q185 q186 rfl (np := 0) (by decide +kernel) rfl ⟨Nat.le_of_ble_eq_true rfl, Nat.le_of_ble_eq_true rfl⟩ (Nat.le_of_ble_eq_true rfl) rfl (by omega) (by omega) (rV fun σ59 h2 => ?_) nV'
    obtain ⟨hLl, hLu⟩ := h2
    have hArl := hA.1
    have hAel := hA.2.1.choose_spec.1
    have hA2 : AL σ59 rl el (nI s) ys := (hA.ro (ro_new hn55 hu58)).ke (Ke.put hLu) (cell_nn hn55 hArl) (cell_nn hn55 hAel)
    refine x_callV dX1_init_88 (con_J2_add hA2 hLl.1 (by omega)) (lw_V q205 q206 q207 q89 q208) (np := 1) (by decide +kernel) rfl hA2.rc ⟨Nat.le_of_ble_eq_true rfl, Nat.le_of_ble_eq_true rfl⟩ (Nat.le_of_ble_eq_true rfl) rfl (by omega) (by omega) (rI fun zz σ61 h3 => ?_) nI'
    obtain ⟨-, hA3, hAu3⟩ := h3
    have hln : σ51 l = none := by
      cases e : σ51 l with
      | none => rfl
      | some v =>
        have e2 := hk l (by rw [e]; exact fun z => by cases z) (cell_nn hn55 hArl).symm (cell_nn hn55 hAel).symm
        rw [hn55, e] at e2
        cases e2
    have hup : ∀ r, τ r ≠ none → r ≠ rl → r ≠ el → σ61 r = τ r := fun r hr h1 h2 => by
      have hrl2 : r ≠ l := fun e => hr (by rw [e]; exact hn55)
      rw [hAu3 r h1 h2, hLu r hrl2, hu58 r hrl2]
    refine x_pop dX1_init_91 rfl ?_
    refine x_iinc (i := 1) (q := 1) (v := nI (s + 1)) (L' := [(1, .int (nI (s + 1))), (0, .ref a)]) dX1_init_92 rfl (nI_1 _) (by decide) rfl ?_
    refine x_goto (tgt := 71) dX1_init_95 (by decide) ?_
    refine x_locs (L' := [(0, .ref a), (1, .int (nI (s + 1)))]) [1, 0] rfl ?_
    refine ih (s + 1) _ (ys ++ [l]) _ _ (by omega) (by have h := hA3; rw [nI_1 s] at h; exact h) (by rw [List.length_append, hys]; rfl) (fun y h => ?_) ?_ (fun r h1 h2 h3 => ?_) (by omega) (by omega)
    · rcases List.mem_append.mp h with h | h
      · obtain ⟨g1, g2⟩ := hy y h
        have hyt : τ y ≠ none := by rw [g1.1]; exact fun z => by cases z
        have e := hup y hyt (fun z => by have := g1.1; rw [z, hArl] at this; cases this) (fun z => by have := g1.1; rw [z, hAel] at this; cases this)
        exact ⟨⟨by rw [e]; exact g1.1, (fun i x hx => by cases hx), g1.2.2⟩, g2⟩
      · rw [List.mem_singleton.mp h]
        exact ⟨⟨by rw [hAu3 l (fun z => by have := hLl.1; rw [z, hA2.1] at this; cases this) (fun z => by have := hLl.1; rw [z, hA2.2.1.choose_spec.1] at this; cases this)]; exact hLl.1, (fun i x hx => by cases hx), hLl.2.2⟩, hln⟩
    · refine List.nodup_append.mpr ⟨hnd, List.nodup_cons.mpr ⟨List.not_mem_nil, List.nodup_nil⟩, fun x hx y hy2 e => ?_⟩
      rw [List.mem_singleton.mp hy2] at e
      have := (hy x hx).1.1
      rw [e, hn55] at this
      cases this
    · have hr : τ r ≠ none := by rw [hk r h1 h2 h3]; exact h1
      exact (hup r hr h2 h3).trans (hk r h1 h2 h3)
