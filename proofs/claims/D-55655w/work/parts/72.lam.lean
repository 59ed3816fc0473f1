set_option maxRecDepth 100000
-- ===== the lambda: its making =====
section YLAM
variable {l : Launch} {y : MethodName} {cc : ByteArray} {nL : Nat} {ret : Option FieldType} {hh : List (Nat × Nat × Nat × Nat)} {G : YG} {R : Room} {Z : YE} {pc : Nat} {L : List (Nat × Value)} {rest : List Value} {σ : AH} {k n : Nat}
theorem ySig_lays : ((ySig.file "LarderLocks").bind (layoutFields · 0)).map (·.2.1) = some #[.int] := by decide +kernel
theorem lam_m1 {α : Type} {z : Option CpInfo} {f : Nat → Nat → Option α} {r : α} (h : Lambda.shapeOf?.match_19 (fun _ => Option α) z f (fun _ => none) = some r) : ∃ b nt, z = some (.invokeDynamic b nt) ∧ f b nt = some r := by
  split at h
  · exact ⟨_, _, rfl, h⟩
  · cases h
theorem lam_m2 {α : Type} {z : Option CpInfo} {f : Nat → Option α} {r : α} (h : Lambda.shapeOf?.match_17 (fun _ => Option α) z f (fun _ => none) = some r) : ∃ b, f b = some r := by
  split at h
  · exact ⟨_, h⟩
  · cases h
theorem lam_m3 {α : Type} {z : Array Nat} {f : Nat → Nat → Nat → Option α} {r : α} (h : Lambda.shapeOf?.match_15 (fun _ => Option α) z f (fun _ => none) = some r) : ∃ a b c, f a b c = some r := by
  rcases z with ⟨zs⟩
  match zs, h with
  | [], h => cases h
  | [_], h => cases h
  | [_, _], h => cases h
  | [a, b, c], h => exact ⟨a, b, c, h⟩
  | _ :: _ :: _ :: _ :: _, h => cases h
theorem lam_m4 {α : Type} {z : Option CpInfo} {f : Nat → Option α} {r : α} (h : Lambda.shapeOf?.match_9 (fun _ => Option α) z f (fun _ => none) = some r) : ∃ b, f b = some r := by
  split at h
  · exact ⟨_, h⟩
  · cases h
theorem lam_m5 {α : Type} {z : Option CpInfo} {f : Nat → Nat → Option α} {r : α} (h : Lambda.shapeOf?.match_12 (fun _ => Option α) z f (fun _ => none) = some r) : ∃ a b, f a b = some r := by
  split at h
  · exact ⟨_, _, h⟩
  · cases h
theorem lam_m6 {α : Type} {z : Option FieldType} {f : String → Option α} {r : α} (h : Lambda.shapeOf?.match_6 (fun _ => Option α) z f (fun _ => none) = some r) : ∃ b, f b = some r := by
  split at h
  · exact ⟨_, h⟩
  · cases h
theorem lam_site {cf : ClassFile} {ix : Nat} {sh : Lambda.Shape} (h : Lambda.shapeOf? cf ix = some sh) : ∃ (b nt : Nat) (desc : String) (site : MethodDescriptor), cf.constantPool[ix]? = some (.invokeDynamic b nt) ∧ cf.constantPool.nameAndType? nt = some (sh.name, desc) ∧ parseMethodDescriptor desc = some site ∧ site.parameters = sh.captured := by
  unfold Lambda.shapeOf? at h
  obtain ⟨b, nt, hc, h⟩ := lam_m1 h
  obtain ⟨_, -, h⟩ := Option.bind_eq_some_iff.mp h
  obtain ⟨_, -, h⟩ := Option.bind_eq_some_iff.mp h
  obtain ⟨_, h⟩ := lam_m2 h
  obtain ⟨_, -, h⟩ := Option.bind_eq_some_iff.mp h
  obtain ⟨_, _, _, h⟩ := lam_m3 h
  obtain ⟨_, h⟩ := lam_m4 h
  obtain ⟨_, _, h⟩ := lam_m5 h
  obtain ⟨_, h⟩ := lam_m4 h
  obtain ⟨⟨nm, ds⟩, hnt, h⟩ := Option.bind_eq_some_iff.mp h
  obtain ⟨site, hsite, h⟩ := Option.bind_eq_some_iff.mp h
  obtain ⟨_, h⟩ := lam_m6 h
  obtain ⟨⟨_, _, _, _⟩, -, h⟩ := Option.bind_eq_some_iff.mp h
  obtain ⟨_, -, h⟩ := Option.bind_eq_some_iff.mp h
  obtain ⟨_, -, h⟩ := Option.bind_eq_some_iff.mp h
  obtain ⟨_, -, h⟩ := Option.bind_eq_some_iff.mp h
  obtain ⟨_, -, h⟩ := Option.bind_eq_some_iff.mp h
  obtain ⟨_, -, h⟩ := Option.bind_eq_some_iff.mp h
  cases h
  exact ⟨b, nt, ds, site, hc, hnt, hsite, rfl⟩
theorem lam_types {e : Setting} {s : State} {args : Array Value} {d c : ClassId} {sh : Lambda.Shape} {dk : Class} {T : Array FieldType} (h : Lambda.isMade e s.vm d sh c = true) (hd : s.vm.classes[d]? = some dk)
    (hO : (Cond.instantiable "java/lang/Object" 0).before args s = true) (hlay : ((sh.file dk.name).bind (layoutFields · 0)).map (·.2.1) = some T) : ∃ q, s.vm.classes[c]? = some q ∧ q.instanceTypes = T ∧ q.kind = .ordinary := by
  obtain ⟨dk', q, ok, -, -, cf, ob, -, -, lay, -, -, -, h1, h2, -, h4, h5, -, h7, h8, -, -, -, -, -, ⟨-, hkind, -⟩, -, -, -, -, -, -, -, ⟨hty, -⟩, -⟩ := Lambda.isMade_spec h
  cases hd.symm.trans h1
  obtain ⟨cO, kO, hfO, hkO, -, -, -, hsz⟩ := Cond.instantiable_spec hO
  cases hfO.symm.trans h5
  cases hkO.symm.trans h7
  rw [h4, Option.bind_some] at hlay
  rw [hsz] at h8
  rw [h8] at hlay
  refine ⟨q, h2, ?_, hkind⟩
  rw [hty, Array.eq_empty_of_size_eq_zero hsz, Array.empty_append]
  exact Option.some.inj hlay
theorem x_lamMake {x : Int32} (hy : y = ySite) (hp : pc = 66) (hd : decode cc 66 = .ok (.invokedynamic 42, 5)) (hwl : (rest.map fun v => v.category).sum + 3073 ≤ R.locals) (hk : 1 ≤ k) (hn : 1 ≤ n)
    (kk : ∀ (b : Nat), σ b = none → gb G ≤ b → X l y cc nL ret hh G R Z (pc + 5) L (.ref b :: rest) (up σ b (.inl (9, 1, .inl (fun _ => x)))) (k - 1) (n - 1)) : X l y cc nL ret hh G R Z pc L (.int x :: rest) σ k n := by
  intro p e s m args below meth c H locs cells slots ls hB hR hS h e1 e2
  obtain ⟨ws, hm, hP, hD⟩ := id hR
  have hG : Glob G s := hB.2.2.2.2.2.2.2.2.2
  have hA : gb G ≤ H.size := hA_Afr hG _ hS.1
  obtain ⟨-, -, -, -, -, -, -, -, -, -, -, hat, -, -⟩ := id hG
  have hObj : (Cond.instantiable "java/lang/Object" 0).before args s = true := hB.2.2.2.2.2.2.2.1 _ q2317
  intro T hT XX
  subst hT
  subst hp
  obtain ⟨m', kS, cfS, i0, p0, lk, hm', hkS, hcfS, hshape, -, hfind, hmade, hcan, hlk⟩ := State.lambdaAt?_spec hat
  have hmm : m' = m := by
    have h1 := hB.2.2.2.2.2.2.1.2
    rw [hy] at h1
    exact Option.some.inj (hm'.symm.trans h1)
  subst hmm
  obtain ⟨rfl, -⟩ : lk = .makes (gA G 9) ∧ ySig.captured ≠ [] := by
    rcases hlk with ⟨a, cell, -, -, h, -⟩ | h
    · exact absurd h (by decide)
    · exact ⟨h.1, h.2.2⟩
  have hnameS : kS.name = "LarderLocks" := by
    have h1 := hB.2.2.2.2.2.2.1.2
    rw [hy] at h1
    obtain ⟨kS', hkS', g⟩ := className_of_methodNamed h1
    cases hkS.symm.trans hkS'
    exact g
  obtain ⟨bsm, nt, desc, site, hc, hnt, hsite, hpar⟩ := lam_site hshape
  obtain ⟨kK, hkK, htyK, hkindK⟩ := lam_types hmade hkS hObj (by rw [hnameS]; exact ySig_lays)
  have hslotsE : ((kK.instanceTypes.toList.zip [(.int x : Value)]).map fun (t, v) => narrow t v) = [.int x] := by
    rw [htyK]
    simp [narrow]
  obtain ⟨X₁, st1⟩ := XX.lambdaMakes hB.1 (g := F0 m' 66 ls (.int x :: rest)) rfl (by sorry) (by rw [hB.2.1]; exact hd) (vals := [.int x]) (rest := rest)
    hkS hfind hcfS hc hnt (parseLong_of_parse hsite) (by rw [hpar]; rfl) rfl hkK
    (by sorry) (by omega) (by rw [hslotsE]; show slots + 1 ≤ _; omega)
    (fun i v hv => by
      rw [hslotsE] at hv
      match i, hv with
      | 0, hv => simp at hv; subst hv; simp [State.fitsSlot, State.slotType?, hkK, hkindK, htyK, fits]
      | k + 1, hv => simp at hv)
  rw [hslotsE] at X₁ st1
  sorry
theorem x_lamCall {b ix cnt kd x : Nat} (hd : decode cc pc = .ok (.invokeinterface ix cnt, 5)) (hl : Cond.methodLink y.cls ix ⟨"LarderLocks$Fit", "is", "(I)Z"⟩ ∈ lw_all) (hb : σ b = some (.inl (9, 1, .inl (fun _ => nI kd)))) (hkd : kd < 3) (hx : x < 3) (hr : 2 ≤ R.frames ∧ 100 ≤ R.locals) (hrest : (rest.map fun v => v.category).sum ≤ 8) (kk : X l y cc nL ret hh G R Z (pc + 5) L (.int (bI (x == 0 || (kd == 1 && x == 1))) :: rest) σ k n) : X l y cc nL ret hh G R Z pc L (.int (nI x) :: .ref b :: rest) σ k n := by
  sorry
end YLAM
