set_option maxRecDepth 100000
-- ===== what is read of old cells: constant strings, small Integers, tables, the script =====
section YCONST
variable {l : Launch} {y : MethodName} {cc : ByteArray} {nL : Nat} {ret : Option FieldType} {hh : List (Nat × Nat × Nat × Nat)} {G : YG} {R : Room} {Z : YE} {pc : Nat} {L : List (Nat × Value)} {rest : List Value} {σ : AH} {k n : Nat}
theorem x_getKv {i ix : Nat} (hd : decode cc pc = .ok (.getfield ix, 3)) (hi : i < 9) (hl : Cond.fieldLink y.cls ix "java/lang/String" "value" "[B" ∈ lw_all) (kk : X l y cc nL ret hh G R Z (pc + 3) L (.ref (gc G (10 + i)) :: rest) σ k n) : X l y cc nL ret hh G R Z pc L (.ref (gc G i) :: rest) σ k n := by
  intro p e s m args below meth c H locs cells slots ls hB hR hS h e1 e2
  have hG : Glob G s := hB.2.2.2.2.2.2.2.2.2
  exact vk_getf hB.1 hB.2.1 (hG.2.2.2.2.2.2.2.2.1 i hi).1 hS hB.2.2.2.2.2.1 (hB.2.2.2.2.2.2.2.1 _ hl) (fun _ h => h) hd (kk p e s m args below meth c H locs cells slots ls hB hR hS h e1 e2)
theorem x_getKc {i ix : Nat} (hd : decode cc pc = .ok (.getfield ix, 3)) (hi : i < 9) (hl : Cond.fieldLink y.cls ix "java/lang/String" "coder" "B" ∈ lw_all) (kk : X l y cc nL ret hh G R Z (pc + 3) L (.int 0 :: rest) σ k n) : X l y cc nL ret hh G R Z pc L (.ref (gc G i) :: rest) σ k n := by
  intro p e s m args below meth c H locs cells slots ls hB hR hS h e1 e2
  have hG : Glob G s := hB.2.2.2.2.2.2.2.2.2
  exact vk_getf hB.1 hB.2.1 (hG.2.2.2.2.2.2.2.2.1 i hi).2.1 hS hB.2.2.2.2.2.1 (hB.2.2.2.2.2.2.2.1 _ hl) (fun _ h => h) hd (kk p e s m args below meth c H locs cells slots ls hB hR hS h e1 e2)
theorem x_getKi {j ix : Nat} (hd : decode cc pc = .ok (.getfield ix, 3)) (hj : j < 256) (hl : Cond.fieldLink y.cls ix "java/lang/Integer" "value" "I" ∈ lw_all) (kk : X l y cc nL ret hh G R Z (pc + 3) L (.int (vb_c j) :: rest) σ k n) : X l y cc nL ret hh G R Z pc L (.ref (gc G (1000 + j)) :: rest) σ k n := by
  intro p e s m args below meth c H locs cells slots ls hB hR hS h e1 e2
  have hG : Glob G s := hB.2.2.2.2.2.2.2.2.2
  exact vk_getf hB.1 hB.2.1 (hG.2.2.2.2.2.2.2.2.2.1 j hj) hS hB.2.2.2.2.2.1 (hB.2.2.2.2.2.2.2.1 _ hl) (fun _ h => h) hd (kk p e s m args below meth c H locs cells slots ls hB hR hS h e1 e2)
theorem x_tlenK {i : Nat} (hd : decode cc pc = .ok (.arraylength, 1)) (hi : i < 9) (kk : X l y cc nL ret hh G R Z (pc + 1) L (.int (nI (yLen.getD i 0)) :: rest) σ k n) : X l y cc nL ret hh G R Z pc L (.ref (gc G (10 + i)) :: rest) σ k n := by
  intro p e s m args below meth c H locs cells slots ls hB hR hS h e1 e2
  have hG : Glob G s := hB.2.2.2.2.2.2.2.2.2
  exact va_tlen hB.1 hB.2.1 (hG.2.2.2.2.2.2.2.2.1 i hi).2.2 hS rfl hd (kk p e s m args below meth c H locs cells slots ls hB hR hS h e1 e2)
theorem x_tbK {i j : Nat} {x v : Int32} (hd : decode cc pc = .ok (.baload, 1)) (hi : i < 9) (hx : x = nI j) (hj : j < yLen.getD i 0) (hN : yLen.getD i 0 < 2 ^ 31) (hv : (yByt.getD i []).getD j 0 = v) (kk : X l y cc nL ret hh G R Z (pc + 1) L (.int v :: rest) σ k n) : X l y cc nL ret hh G R Z pc L (.int x :: .ref (gc G (10 + i)) :: rest) σ k n := by
  intro p e s m args below meth c H locs cells slots ls hB hR hS h e1 e2
  have hG : Glob G s := hB.2.2.2.2.2.2.2.2.2
  subst hx
  exact va_tb hB.1 hB.2.1 (hG.2.2.2.2.2.2.2.2.1 i hi).2.2 hS (vp_in_nI hj hN) (v := .int v) (by rw [nI_clamp (Nat.lt_trans hj hN), hv]) hd (kk p e s m args below meth c H locs cells slots ls hB hR hS h e1 e2)
/-- the digits' tables -/
theorem x_tbD {j : Nat} {x v : Int32} (hd : decode cc pc = .ok (.baload, 1)) (hx : x = nI j) (hj : j < 100) (hv : yOnes j = v) (kk : X l y cc nL ret hh G R Z (pc + 1) L (.int v :: rest) σ k n) : X l y cc nL ret hh G R Z pc L (.int x :: .ref (gc G 21) :: rest) σ k n := by
  intro p e s m args below meth c H locs cells slots ls hB hR hS h e1 e2
  have hG : Glob G s := hB.2.2.2.2.2.2.2.2.2
  subst hx
  have hT : va_T (.byte) (gc G 21) (100) (fun j => .int (yOnes j)) (Afr G) s s.heap := hG.2.2.2.2.2.2.2.2.2.2.1 (.byte, gc G 21, 100, fun j => .int (yOnes j)) (by simp [yT])
  exact va_tb hB.1 hB.2.1 hT hS (vp_in_nI hj (by omega)) (v := .int v) (by rw [nI_clamp (by omega), hv]) hd (kk p e s m args below meth c H locs cells slots ls hB hR hS h e1 e2)
theorem x_tbT {j : Nat} {x v : Int32} (hd : decode cc pc = .ok (.baload, 1)) (hx : x = nI j) (hj : j < 100) (hv : yTens j = v) (kk : X l y cc nL ret hh G R Z (pc + 1) L (.int v :: rest) σ k n) : X l y cc nL ret hh G R Z pc L (.int x :: .ref (gc G 22) :: rest) σ k n := by
  intro p e s m args below meth c H locs cells slots ls hB hR hS h e1 e2
  have hG : Glob G s := hB.2.2.2.2.2.2.2.2.2
  subst hx
  have hT : va_T (.byte) (gc G 22) (100) (fun j => .int (yTens j)) (Afr G) s s.heap := hG.2.2.2.2.2.2.2.2.2.2.1 (.byte, gc G 22, 100, fun j => .int (yTens j)) (by simp [yT])
  exact va_tb hB.1 hB.2.1 hT hS (vp_in_nI hj (by omega)) (v := .int v) (by rw [nI_clamp (by omega), hv]) hd (kk p e s m args below meth c H locs cells slots ls hB hR hS h e1 e2)
theorem x_tqI {j : Nat} {x : Int32} (hd : decode cc pc = .ok (.aaload, 1)) (hx : x = nI j) (hj : j < 256) (kk : X l y cc nL ret hh G R Z (pc + 1) L (.ref (gc G (1000 + j)) :: rest) σ k n) : X l y cc nL ret hh G R Z pc L (.int x :: .ref (gc G 20) :: rest) σ k n := by
  intro p e s m args below meth c H locs cells slots ls hB hR hS h e1 e2
  have hG : Glob G s := hB.2.2.2.2.2.2.2.2.2
  subst hx
  have hT : va_T (.object "java/lang/Integer") (gc G 20) (256) (fun j => .ref (gc G (1000 + j))) (Afr G) s s.heap := hG.2.2.2.2.2.2.2.2.2.2.1 (.object "java/lang/Integer", gc G 20, 256, fun j => .ref (gc G (1000 + j))) (by simp [yT])
  exact vb_tq hB.1 hB.2.1 hT hS (vp_in_nI hj (by omega)) (v := .ref (gc G (1000 + j))) (by rw [nI_clamp (by omega)]) hd (kk p e s m args below meth c H locs cells slots ls hB hR hS h e1 e2)
/-- the script -/
theorem x_tiS {j : Nat} {x v : Int32} (hd : decode cc pc = .ok (.iaload, 1)) (hx : x = nI j) (hj : j < (gs G).2.1) (hN : (gs G).2.1 < 2 ^ 31) (hv : (gs G).2.2 j = v) (kk : X l y cc nL ret hh G R Z (pc + 1) L (.int v :: rest) σ k n) : X l y cc nL ret hh G R Z pc L (.int x :: .ref (gs G).1 :: rest) σ k n := by
  intro p e s m args below meth c H locs cells slots ls hB hR hS h e1 e2
  have hG : Glob G s := hB.2.2.2.2.2.2.2.2.2
  subst hx
  have hT : va_T (.int) ((gs G).1) ((gs G).2.1) (fun j => .int ((gs G).2.2 j)) (Afr G) s s.heap := hG.2.2.2.2.2.2.2.2.2.2.1 (.int, (gs G).1, (gs G).2.1, fun j => .int ((gs G).2.2 j)) (by simp [yT])
  exact va_ti hB.1 hB.2.1 hT hS (vp_in_nI hj hN) (v := .int v) (by rw [nI_clamp (Nat.lt_trans hj hN), hv]) hd (kk p e s m args below meth c H locs cells slots ls hB hR hS h e1 e2)
theorem x_tlenS (hd : decode cc pc = .ok (.arraylength, 1)) (kk : X l y cc nL ret hh G R Z (pc + 1) L (.int (nI (gs G).2.1) :: rest) σ k n) : X l y cc nL ret hh G R Z pc L (.ref (gs G).1 :: rest) σ k n := by
  intro p e s m args below meth c H locs cells slots ls hB hR hS h e1 e2
  have hG : Glob G s := hB.2.2.2.2.2.2.2.2.2
  have hT : va_T (.int) ((gs G).1) ((gs G).2.1) (fun j => .int ((gs G).2.2 j)) (Afr G) s s.heap := hG.2.2.2.2.2.2.2.2.2.2.1 (.int, (gs G).1, (gs G).2.1, fun j => .int ((gs G).2.2 j)) (by simp [yT])
  exact va_tlen hB.1 hB.2.1 hT hS rfl hd (kk p e s m args below meth c H locs cells slots ls hB hR hS h e1 e2)
/-- a static that holds some reference -/
theorem x_gv {i : Nat} (h1 : gv G i = .null → X l y cc nL ret hh G R Z pc L (.null :: rest) σ k n) (h2 : ∀ b, gv G i = .ref b → X l y cc nL ret hh G R Z pc L (.ref b :: rest) σ k n) : X l y cc nL ret hh G R Z pc L (gv G i :: rest) σ k n := by
  intro p e s m args below meth c H locs cells slots ls hB hR hS h e1 e2
  have hG : Glob G s := hB.2.2.2.2.2.2.2.2.2
  have hr := hG.2.2.2.2.2.2.2.2.2.2.2.2.2 i
  cases hv : gv G i with
  | null => exact h1 hv p e s m args below meth c H locs cells slots ls hB hR hS h e1 e2
  | ref b => exact h2 b hv p e s m args below meth c H locs cells slots ls hB hR hS h e1 e2
  | _ => rw [hv] at hr; cases hr
-- ===== strings, in either place =====
def okCh (t : List Nat) : Prop := t.length < 2 ^ 20 ∧ ∀ x ∈ t, x < 128
def BytK (i : Nat) (t : List Nat) : Prop := i < 9 ∧ yLen.getD i 0 = t.length ∧ ∀ j x, t[j]? = some x → (yByt.getD i []).getD j 0 = nI x
def BytF (f : Nat → Int32) (t : List Nat) : Prop := ∀ j x, t[j]? = some x → f j = nI x
/-- q is a string whose characters are t -/
def StrAt (G : YG) (σ : AH) (q : Nat) (t : List Nat) : Prop := okCh t ∧ ((∃ i, q = gc G i ∧ BytK i t) ∨ ∃ (v : Nat) (h1 h2 : Int32) (f : Nat → Int32), σ q = some (.inr (17, [.ref v, .int 0, .int h1, .int h2])) ∧ σ v = some (.inl (3, t.length, .inl f)) ∧ BytF f t)
def BytAt (G : YG) (σ : AH) (b : Nat) (t : List Nat) : Prop := okCh t ∧ ((∃ i, b = gc G (10 + i) ∧ BytK i t) ∨ ∃ f : Nat → Int32, σ b = some (.inl (3, t.length, .inl f)) ∧ BytF f t)
theorem StrAt.ro {G : YG} {σ τ : AH} {q : Nat} {t : List Nat} (h : StrAt G σ q t) (hr : RO σ τ) : StrAt G τ q t := by
  obtain ⟨h0, h | ⟨v, h1, h2, f, g1, g2, g3⟩⟩ := h
  · exact ⟨h0, Or.inl h⟩
  · exact ⟨h0, Or.inr ⟨v, h1, h2, f, hr _ _ g1, hr _ _ g2, g3⟩⟩
theorem StrAt.rcv {G : YG} {σ : AH} {q : Nat} {t : List Nat} (h : StrAt G σ q t) : rcv G σ "java/lang/String" q := by
  obtain ⟨h0, ⟨i, rfl, h1, -⟩ | ⟨v, h1, h2, f, g1, g2, g3⟩⟩ := h
  · exact Or.inr (Or.inl ⟨rfl, i, h1, rfl⟩)
  · exact Or.inl ⟨17, _, _, _, vC_17, g1⟩
theorem x_sval {q ix : Nat} {t : List Nat} (hd : decode cc pc = .ok (.getfield ix, 3)) (hq : StrAt G σ q t) (hl : Cond.fieldLink y.cls ix "java/lang/String" "value" "[B" ∈ lw_all) (kk : ∀ b, BytAt G σ b t → X l y cc nL ret hh G R Z (pc + 3) L (.ref b :: rest) σ k n) : X l y cc nL ret hh G R Z pc L (.ref q :: rest) σ k n := by
  obtain ⟨h0, ⟨i, rfl, h1⟩ | ⟨v, h1, h2, f, g1, g2, g3⟩⟩ := hq
  · exact x_getKv hd h1.1 hl (kk _ ⟨h0, Or.inl ⟨i, rfl, h1⟩⟩)
  · exact x_get hd vC_17 in_J11 g1 0 (by decide) hl rfl (kk _ ⟨h0, Or.inr ⟨f, g2, g3⟩⟩)
theorem x_scod {q ix : Nat} {t : List Nat} (hd : decode cc pc = .ok (.getfield ix, 3)) (hq : StrAt G σ q t) (hl : Cond.fieldLink y.cls ix "java/lang/String" "coder" "B" ∈ lw_all) (kk : X l y cc nL ret hh G R Z (pc + 3) L (.int 0 :: rest) σ k n) : X l y cc nL ret hh G R Z pc L (.ref q :: rest) σ k n := by
  obtain ⟨h0, ⟨i, rfl, h1⟩ | ⟨v, h1, h2, f, g1, g2, g3⟩⟩ := hq
  · exact x_getKc hd h1.1 hl kk
  · exact x_get hd vC_17 in_J11 g1 1 (by decide) hl rfl kk
theorem x_slen {b : Nat} {t : List Nat} (hd : decode cc pc = .ok (.arraylength, 1)) (hb : BytAt G σ b t) (kk : X l y cc nL ret hh G R Z (pc + 1) L (.int (nI t.length) :: rest) σ k n) : X l y cc nL ret hh G R Z pc L (.ref b :: rest) σ k n := by
  obtain ⟨h0, ⟨i, rfl, h1⟩ | ⟨f, g2, g3⟩⟩ := hb
  · have := x_tlenK (k := k) (n := n) (L := L) (rest := rest) (σ := σ) (R := R) (Z := Z) (ret := ret) (hh := hh) (nL := nL) (l := l) (y := y) hd h1.1 (G := G)
    rw [h1.2.1] at this
    exact this kk
  · exact x_alen (N := 0) (q0 := 3) (v := nI t.length) hd g2 rfl rfl kk
theorem x_sbyt {b j c : Nat} {x : Int32} {t : List Nat} (hd : decode cc pc = .ok (.baload, 1)) (hb : BytAt G σ b t) (hx : x = nI j) (hj : t[j]? = some c) (kk : X l y cc nL ret hh G R Z (pc + 1) L (.int (nI c) :: rest) σ k n) : X l y cc nL ret hh G R Z pc L (.int x :: .ref b :: rest) σ k n := by
  have hlt := (List.getElem?_eq_some_iff.mp hj).1
  obtain ⟨h0, ⟨i, rfl, h1⟩ | ⟨f, g2, g3⟩⟩ := hb
  · have hl := h0.1
    exact x_tbK hd h1.1 hx (by rw [h1.2.1]; exact hlt) (by rw [h1.2.1]; omega) (h1.2.2 j c hj) kk
  · have hl := h0.1
    exact x_bald hd g2 hx hlt (by omega) (g3 j c hj) kk
theorem BytAt.len {G : YG} {σ : AH} {b : Nat} {t : List Nat} (h : BytAt G σ b t) : t.length < 2 ^ 20 := h.1.1
theorem StrAt.len {G : YG} {σ : AH} {b : Nat} {t : List Nat} (h : StrAt G σ b t) : t.length < 2 ^ 20 := h.1.1
theorem BytAt.ch {G : YG} {σ : AH} {b j c : Nat} {t : List Nat} (h : BytAt G σ b t) (hj : t[j]? = some c) : c < 128 := h.1.2 c (List.mem_of_getElem? hj)
theorem StrAt.con {G : YG} {σ : AH} {i : Nat} {t : List Nat} (hi : i < 9) (h1 : yLen.getD i 0 = t.length) (h2 : yByt.getD i [] = t.map nI) (h3 : t.length < 2 ^ 20) (h4 : ∀ x ∈ t, x < 128) : StrAt G σ (gc G i) t := ⟨⟨h3, h4⟩, Or.inl ⟨i, rfl, hi, h1, fun j x hx => by
  rw [h2, List.getD_eq_getElem?_getD, List.getElem?_map, hx]; rfl⟩⟩
/-- a character out of a byte -/
theorem ch_byte {c : Nat} (h : c < 128) : ((nI c &&& 255).toUInt32 % 65536).toInt32 = nI c := (by decide +kernel : ∀ c, c < 128 → ((nI c &&& 255).toUInt32 % 65536).toInt32 = nI c) c h
theorem ch_fit {c : Nat} (h : c < 128) : narrow .char (.int (nI c)) = .int (nI c) := (by decide +kernel : ∀ c, c < 128 → narrow .char (.int (nI c)) = .int (nI c)) c h
end YCONST
-- ===== a member without a row of natives, of a class that has rows =====
theorem vz_ofWF {l : Launch} {y : MethodName} {ws ws' : List Cond} {rm : Room} {Pc : Array Value → State → Prop} {Qc : Array Value → State → Outcome → State → Prop} {XC : String → Addr → State → State → Prop} {mc ms : Nat} {free : Addr → Prop} {cc : ByteArray} {maxL : Nat} {ret : Option FieldType}
    (hy : plainFor y = true) (hw : ws = Cond.code y cc maxL ret :: ws')
    (body : ∀ p e s m args below meth c s₁, BodyLoose p l y (headSpec ws rm) cc maxL ret e s m args below meth c s₁ → c.maxLocals = maxL → (∀ x ∈ c.exceptionTable.toList, False) → Pc args s →
      W p l e (headSpec ws rm).room s m args below meth c s.heap [] 0 0 (vz_MQ below Qc XC args s mc ms free) (entryFrame m args maxL)) : vz_Met l y ws rm Pc Qc XC mc ms free := by
  refine MetFree.of_bodySF (code := cc) (maxLocals := maxL) (ret := ret) hy ?_ ?_
  · intro args s m h hn
    obtain ⟨meth, c, h1, h2, h3, h4, h5, h6, -, -⟩ := Cond.code_spec hn (atoms_spec (ws := ws) h _ (by rw [hw]; exact List.mem_cons_self))
    exact ⟨meth, c, h1, h2, h3, h4, h5, h6⟩
  · intro p e s m args below meth c s₁ B hml hP _
    have hh0 : s₁.heap = s.heap := by rw [B.state]; rfl
    have ht : ∀ x ∈ c.exceptionTable.toList, False := by
      obtain ⟨meth9, c9, h1, h2, -, -, -, -, h7, -⟩ := Cond.code_spec B.named (atoms_spec (ws := ws) B.pre _ (by rw [hw]; exact List.mem_cons_self))
      cases Option.some.inj (h1.symm.trans B.method)
      cases Option.some.inj (h2.symm.trans (Stand.of_body B).code)
      intro x hx
      rw [Array.isEmpty_iff.mp h7] at hx
      cases hx
    obtain ⟨t, a1, o, b1, b2, b3⟩ := body p e s m args below meth c s₁ B hml ht hP s₁ hh0 (Stand.of_body B)
    exact ⟨t, o, a1, b1, b2, b3⟩
theorem con_ofF {l : Launch} {y : MethodName} {cc : ByteArray} {nL : Nat} {ret : Option FieldType} {G : YG} {d mc ms : Nat} {as : List Value} {σ : AH} {Post : YR → AH → Prop} (hy : plainFor y = true) (hsl : (lg_sl as).length ≤ nL)
    (h : X l y cc nL ret [] G (yroom d mc ms) (yEnd G (yroom d mc ms) Post) 0 (lv_args 0 as) [] σ mc ms) : Con l y cc nL ret G d mc ms as σ Post := by
  refine vz_ofWF (cc := cc) (maxL := nL) (ret := ret) hy rfl ?_
  intro p e s m args below meth c s₁ B hml ht hv
  obtain ⟨rfl, hG, hR⟩ := hv
  have hts := atoms_spec (ws := ws_ y cc nL ret) B.pre
  have hl := lv_entry as (n := nL) hsl
  rw [lg_entry_eq]
  refine h p e s m _ below meth c s.heap [] 0 0 _ ⟨B.exec, B.bytes, B.returns, B.notSynchronized, hml, findClass_of_methodNamed B.named, ⟨(name_of_methodNamed B.named B.method).1, B.named⟩, fun w hw => hts w (List.mem_cons_of_mem _ hw), ?_, hG⟩ hR va_S.rf hl (Nat.zero_add _) (Nat.zero_add _)
  exact List.eq_nil_iff_forall_not_mem.mpr (fun x hx => ht x hx)
