set_option maxRecDepth 100000
-- ===== arrays of arrays =====
section YROW7
variable {l : Launch} {y : MethodName} {cc : ByteArray} {nL : Nat} {ret : Option FieldType} {hh : List (Nat × Nat × Nat × Nat)} {G : YG} {R : Room} {Z : YE} {pc : Nat} {L : List (Nat × Value)} {rest : List Value} {σ : AH} {k n : Nat}
theorem x_aald7 {N a j b : Nat} {f : Nat → Option Nat} {x : Int32} (hd : decode cc pc = .ok (.aaload, 1)) (hr : σ a = some (.inl (7, N, .inr (.inr (.inr (.inr f)))))) (hx : x = nI j) (hj : j < N) (hN : N < 2 ^ 31) (hv : f j = some b) (kk : X l y cc nL ret hh G R Z (pc + 1) L (.ref b :: rest) σ k n) : X l y cc nL ret hh G R Z pc L (.int x :: .ref a :: rest) σ k n := by
  intro p e s m args below meth c H locs cells slots ls hB hR hS h e1 e2
  obtain ⟨ws, hm, hP, hD⟩ := id hR
  obtain ⟨i, hi⟩ := rep_at (hm _ _ hr)
  subst hx
  have hK := hB.2.2.2.2.2.2.2.2.2.1
  refine W.aald (v := .ref b) (ty := .array .short) hB.1 hB.2.1 (hP i _ hi) ((hK.2 7 _ rfl).1 N (fun j => va_rf (f j))) rfl (fun q => by cases q) ?_ ?_ rfl rfl hd (kk p e s m args below meth c H locs cells slots ls hB hR hS h e1 e2)
  · show ¬ (nI j < 0 ∨ (arrV _ _ _).slots.size ≤ _)
    rw [arrV_size]; exact vp_in_nI hj hN
  · show (arrV _ _ _).slots[_]? = _
    rw [arrV_read _ _ (by rw [nI_clamp (Nat.lt_trans hj hN)]; exact hj), nI_clamp (Nat.lt_trans hj hN), hv]
    rfl
end YROW7
section YMULTI
variable {l : Launch} {y : MethodName} {cc : ByteArray} {nL : Nat} {ret : Option FieldType} {hh : List (Nat × Nat × Nat × Nat)} {G : YG} {R : Room} {Z : YE} {pc : Nat} {L : List (Nat × Value)} {rest : List Value} {σ : AH} {k n : Nat}
theorem outer_mh (c : ClassId) (N h0 : Nat) : ∀ i, (Jvm.Free.Multi.outerC c N h0 i).monitor = {} ∧ (Jvm.Free.Multi.outerC c N h0 i).hash = none := by
  intro i
  induction i with
  | zero => exact ⟨rfl, rfl⟩
  | succ i ih => exact ih
theorem outer_cell (cA : ClassId) (h0 : Nat) : Jvm.Free.Multi.outerC cA 24 h0 24 = vp_cell cA (24, .inr (.inr (.inr (.inr (fun j => some (h0 + 1 + j)))))) := by
  obtain ⟨o1, o2, o3⟩ := Jvm.Free.Multi.outerC_facts cA 24 h0 24
  have hs : (Jvm.Free.Multi.outerC cA 24 h0 24).slots = Array.ofFn (n := 24) (fun j => Value.ref (h0 + 1 + j.val)) := by
    apply Array.ext
    · rw [o3]; simp
    · intro i h1 h2
      have hi : i < 24 := by rw [o3] at h1; exact h1
      have := Jvm.Free.Multi.outerC_slot cA 24 h0 24 i hi
      rw [if_pos hi, Array.getElem?_eq_getElem h1] at this
      rw [Option.some.inj this]; simp
  have key : ∀ o : Cell, o.monitor = {} → o.hash = none → o.cls = cA → o.vm = .none → o.slots = Array.ofFn (n := 24) (fun j => Value.ref (h0 + 1 + j.val)) → o = vp_cell cA (24, .inr (.inr (.inr (.inr (fun j => some (h0 + 1 + j)))))) := fun o g4 g5 g1 g2 g3 => by
    obtain ⟨c, sl, m, h, v⟩ := o
    simp only at g1 g2 g3 g4 g5
    subst g1 g2 g3 g4 g5
    rfl
  exact key _ (outer_mh cA 24 h0 24).1 (outer_mh cA 24 h0 24).2 o1 o2 hs
theorem inner_cell (cA : ClassId) : Jvm.Free.Multi.innerC cA 8 (.int 0) = vp_cell cA (8, .inl (fun _ => 0)) := by
  show ({ cls := cA, slots := Array.replicate 8 (.int 0), vm := .none } : Cell) = { cls := cA, slots := Array.ofFn (n := 8) fun j => Value.int 0, vm := .none }
  rfl
def mRow : Ent := .inl (1, 8, .inl (fun _ => 0))
def mOut (b : Nat) : Ent := .inl (7, 24, .inr (.inr (.inr (.inr (fun j => some (b + 1 + j))))))
def mEnt (b : Nat) (i : Nat) : Ent := if i = 0 then mOut b else mRow
/-- the map with 25 new cells from b on -/
def mUp (σ : AH) (b : Nat) : AH := fun q => if b ≤ q ∧ q < b + 25 then some (mEnt b (q - b)) else σ q
def mWs (G : YG) (b : Nat) : va_W := (List.range 25).map (fun i => (b + i, ent G (mEnt b i)))
theorem mWs_at {G : YG} {b k : Nat} {q : Nat × va_E} (h : (mWs G b)[k]? = some q) : k < 25 ∧ q = (b + k, ent G (mEnt b k)) := by
  rw [mWs, List.getElem?_map] at h
  cases hk : (List.range 25)[k]? with
  | none => rw [hk] at h; cases h
  | some x =>
    have hl := (List.getElem?_eq_some_iff.mp hk).1
    rw [List.length_range] at hl
    have hx := (List.getElem?_eq_some_iff.mp hk).2
    rw [List.getElem_range] at hx
    subst hx
    rw [hk] at h
    exact ⟨hl, (Option.some.inj h).symm⟩
theorem rep_multi {G : YG} {σ : AH} {ws : va_W} {H H1 : Heap} (hm : ∀ q x, σ q = some x → (q, ent G x) ∈ ws) (hP : va_P (gD G) vCl ws H) (hD : va_D (Afr G) ws) (hA : gb G ≤ H.size)
    (old : ∀ a, a < H.size → H1[a]? = H[a]?) (ho : H1[H.size]? = some (vp_cell (gA G 7) (24, .inr (.inr (.inr (.inr (fun j => some (H.size + 1 + j)))))))) (hi : ∀ j, j < 24 → H1[H.size + 1 + j]? = some (vp_cell (gA G 1) (8, .inl (fun _ => 0)))) :
    Rep G (mUp σ H.size) H1 ∧ ∀ q, H.size ≤ q → σ q = none := by
  have hlt : ∀ q x, (q, x) ∈ ws → q < H.size := fun q x hx => by
    obtain ⟨i, hi⟩ := List.getElem?_of_mem hx
    exact (hP i _ hi).lt
  have hn : ∀ q, H.size ≤ q → σ q = none := fun q hq => by
    cases h : σ q with
    | none => rfl
    | some x => exact absurd (hlt _ _ (hm _ _ h)) (by omega)
  refine ⟨⟨ws ++ mWs G H.size, fun q x hq => ?_, (hP.kept fun k x hx => old x.1 ((hP k x hx).lt)).app (fun k x hx => ?_), hD.app ⟨fun i j x z h1 h2 h3 => ?_, fun k x hx => ?_⟩ (fun i j x z h1 h2 => ?_)⟩, hn⟩
  · by_cases hb : H.size ≤ q ∧ q < H.size + 25
    · rw [mUp, if_pos hb] at hq
      cases hq
      refine List.mem_append_right _ (List.mem_map.mpr ⟨q - H.size, List.mem_range.mpr (by omega), ?_⟩)
      rw [show H.size + (q - H.size) = q by omega]
    · rw [mUp, if_neg hb] at hq
      exact List.mem_append_left _ (hm q x hq)
  · obtain ⟨hk, hx⟩ := mWs_at hx
    subst hx
    cases k with
    | zero => exact ho
    | succ k =>
      have hz := hi k (by omega)
      rw [show H.size + 1 + k = H.size + (k + 1) by omega] at hz
      exact hz
  · obtain ⟨g1, g2⟩ := mWs_at h1
    obtain ⟨g3, g4⟩ := mWs_at h2
    subst g2 g4
    simp only at h3
    omega
  · obtain ⟨g1, g2⟩ := mWs_at hx
    subst g2
    show gb G ≤ _
    simp only
    omega
  · obtain ⟨g3, g4⟩ := mWs_at h2
    subst g4
    have := (hP i _ h1).lt
    simp only
    omega
theorem x_multi {ix : Nat} (hd : decode cc pc = .ok (.multianewarray ix 2, 4)) (hcl : Cond.classLink y.cls ix "[[S" ∈ lw_all) (hover : Cond.arrayOver (.array .short) ∈ lw_tbl) (harr : Cond.arrayClass .short ∈ lw_all) (hk : 25 ≤ k) (hn : 216 ≤ n)
    (kk : ∀ (b : Nat), gb G ≤ b → (∀ q, b ≤ q → σ q = none) → X l y cc nL ret hh G R Z (pc + 4) L (.ref b :: rest) (mUp σ b) (k - 25) (n - 216)) : X l y cc nL ret hh G R Z pc L (.int 8 :: .int 24 :: rest) σ k n := by
  intro p e s m args below meth c H locs cells slots ls hB hR hS h e1 e2
  obtain ⟨ws, hm, hP, hD⟩ := id hR
  have hG : Glob G s := hB.2.2.2.2.2.2.2.2.2
  have hA : gb G ≤ H.size := hA_Afr hG _ hS.1
  intro T hT XX
  subst hT
  have c24 : (24 : Int32).toNatClampNeg = 24 := by decide
  have c8 : (8 : Int32).toNatClampNeg = 8 := by decide
  obtain ⟨vm₁, cA, comp, hW1, hfA, hfC, hO, hI, X1, step⟩ := XX.multianewarray2F hB.1 (ty := .short) hB.2.2.2.2.2.1 (hB.2.2.2.2.2.2.2.1 _ hcl) (show (Cond.arrayOver (.array .short)).before args s = true from hG.2.1 _ hover rfl) (hB.2.2.2.2.2.2.2.1 _ harr)
    (g := F0 m pc ls (.int 8 :: .int 24 :: rest)) rfl (by rw [hB.2.1]; exact hd) (n := 24) (k := 8) (rest := rest) rfl (by decide) (by decide) (by decide) (by decide) (by decide) rfl rfl (by rw [c24]; omega) (by rw [c24, c8]; omega)
  rw [c24, c8] at X1 step
  have eA : cA = gA G 7 := by
    have h2 := (hG.1.2 7 (gA G 7, .array .short) rfl).2
    exact Option.some.inj (hfA.symm.trans h2)
  have eC : comp = gA G 1 := by
    have h2 := (hG.1.2 1 (gA G 1, .short) rfl).2
    exact Option.some.inj (hfC.symm.trans h2)
  subst eA eC
  have f1 := (Jvm.Free.Multi.fill_facts (T.setVm vm₁) (gA G 7) (gA G 1) 24 8 (defaultValue .short) 24).1
  have f2 := (Jvm.Free.Multi.fill_facts (T.setVm vm₁) (gA G 7) (gA G 1) 24 8 (defaultValue .short) 24).2.1
  have fo := fun (a : Nat) (ha : a < T.heap.size) => Jvm.Free.Multi.fill_old (T.setVm vm₁) (gA G 7) (gA G 1) 24 8 (defaultValue .short) (a := a) ha 24
  have fi := fun (j : Nat) (hj : j < 24) => Jvm.Free.Multi.fill_inner (T.setVm vm₁) (gA G 7) (gA G 1) 24 8 (defaultValue .short) 24 j hj
  generalize Jvm.Free.Multi.fill (T.setVm vm₁) (gA G 7) (gA G 1) 24 8 (defaultValue .short) 24 = T1 at X1 step f1 f2 fo fi
  have z1 : T.heap.size ≤ T1.heap.size := by
    have : T1.heap.size = T.heap.size + 1 + 24 := f1
    omega
  obtain ⟨g1, g2⟩ := rep_multi (H1 := T1.heap) hm hP hD hA fo (f2.trans (congrArg some (outer_cell _ _))) (fun j hj => (fi j hj).trans (congrArg some (inner_cell _)))
  obtain ⟨t, a1, b1⟩ := kk T.heap.size hA g2 p e s m args below meth c _ locs (cells + 1 + 24) (slots + 24 + 24 * 8) ls hB g1 ⟨Nat.le_trans hS.1 z1, fun x h1 h2 => (fo x (Nat.lt_of_lt_of_le h1 hS.1)).trans (hS.2.1 x h1 h2), hS.2.2⟩ h (by omega) (by omega) _ rfl X1
  exact ⟨t, step t a1, b1⟩
end YMULTI
