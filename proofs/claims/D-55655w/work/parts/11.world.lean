set_option maxRecDepth 100000
abbrev Ent : Type := (Nat × vp_A) ⊕ (Nat × List Value)
abbrev AH : Type := Nat → Option Ent
abbrev YG : Type := va_G × (Nat → ClassId) × Nat × (Nat → Nat) × (Nat → Value) × (Nat × Nat × (Nat → Int32))
abbrev YR : Type := (Option Value) ⊕ (String × Nat)
abbrev gD (G : YG) : va_G := G.1
abbrev gA (G : YG) : Nat → ClassId := G.2.1
abbrev gb (G : YG) : Nat := G.2.2.1
abbrev gc (G : YG) : Nat → Nat := G.2.2.2.1
abbrev gv (G : YG) : Nat → Value := G.2.2.2.2.1
abbrev gs (G : YG) : Nat × Nat × (Nat → Int32) := G.2.2.2.2.2
def ent (G : YG) (e : Ent) : va_E := match e with
  | .inl a => .inl (gA G a.1, a.2)
  | .inr o => .inr o
def tag (e : Ent) : Nat := match e with
  | .inl a => 100 + a.1
  | .inr o => o.1
/-- what is never written once it is made -/
def imm (t : Nat) : Bool := t == 4 || t == 17 || t == 18 || t == 109
def Afr (G : YG) : Nat → Prop := fun q => gb G ≤ q
abbrev vCl : List vw_C := [(RX0, TX0, 8), (RX1, TX1, 10), (RX2, TX2, 18), (RX3, TX3, 8), (RX4, TX4, 3), (RX5, TX5, 2), (RX6, TX6, 1), (RX7, TX7, 2), (RX8, TX8, 7), (RX9, TX9, 3), (RJ2, TJ2, 3), (RJ4, TJ4, 4), (RJ26, TJ26, 3), (RJ18, TJ18, 5), (RJ16, TJ16, 4), (RJ8, TJ8, 3), (RJ10, TJ10, 4), (RJ11, TJ11, 4), (RJ20, TJ20, 1)]
theorem vC_0 : vCl[0]? = some (RX0, TX0, 8) := rfl
theorem vC_1 : vCl[1]? = some (RX1, TX1, 10) := rfl
theorem vC_2 : vCl[2]? = some (RX2, TX2, 18) := rfl
theorem vC_3 : vCl[3]? = some (RX3, TX3, 8) := rfl
theorem vC_4 : vCl[4]? = some (RX4, TX4, 3) := rfl
theorem vC_5 : vCl[5]? = some (RX5, TX5, 2) := rfl
theorem vC_6 : vCl[6]? = some (RX6, TX6, 1) := rfl
theorem vC_7 : vCl[7]? = some (RX7, TX7, 2) := rfl
theorem vC_8 : vCl[8]? = some (RX8, TX8, 7) := rfl
theorem vC_9 : vCl[9]? = some (RX9, TX9, 3) := rfl
theorem vC_10 : vCl[10]? = some (RJ2, TJ2, 3) := rfl
theorem vC_11 : vCl[11]? = some (RJ4, TJ4, 4) := rfl
theorem vC_12 : vCl[12]? = some (RJ26, TJ26, 3) := rfl
theorem vC_13 : vCl[13]? = some (RJ18, TJ18, 5) := rfl
theorem vC_14 : vCl[14]? = some (RJ16, TJ16, 4) := rfl
theorem vC_15 : vCl[15]? = some (RJ8, TJ8, 3) := rfl
theorem vC_16 : vCl[16]? = some (RJ10, TJ10, 4) := rfl
theorem vC_17 : vCl[17]? = some (RJ11, TJ11, 4) := rfl
theorem vC_18 : vCl[18]? = some (RJ20, TJ20, 1) := rfl
def yTys (G : YG) : List (ClassId × FieldType) := [(gA G 0, .int), (gA G 1, .short), (gA G 2, .boolean), (gA G 3, .byte), (gA G 4, .char), (gA G 5, .object "java/lang/Object"), (gA G 6, .object "LarderLocks$Fit"), (gA G 7, .array .short)]
/-- the heap holds what the map says -/
def Rep (G : YG) (σ : AH) (H : Heap) : Prop := ∃ ws : va_W, (∀ q e, σ q = some e → (q, ent G e) ∈ ws) ∧ va_P (gD G) vCl ws H ∧ va_D (Afr G) ws
def up (σ : AH) (a : Nat) (e : Ent) : AH := fun j => if j = a then some e else σ j
theorem up_self {σ : AH} {a : Nat} {e : Ent} : up σ a e a = some e := by simp [up]
theorem up_ne {σ : AH} {a q : Nat} {e : Ent} (h : q ≠ a) : up σ a e q = σ q := by simp [up, h]
theorem rep_at {ws : va_W} {q : Nat} {x : va_E} (h : (q, x) ∈ ws) : ∃ i : Nat, ws[i]? = some (q, x) := List.getElem?_of_mem h
theorem rep_set {G : YG} {σ : AH} {ws : va_W} {i a : Nat} {e0 : va_E} {e : Ent} {H1 : Heap} (hm : ∀ q x, σ q = some x → (q, ent G x) ∈ ws) (hi : ws[i]? = some (a, e0)) (hD : va_D (Afr G) ws)
    (hP1 : va_P (gD G) vCl (ws.set i (a, ent G e)) H1) (hD1 : va_D (Afr G) (ws.set i (a, ent G e))) : Rep G (up σ a e) H1 := by
  have hl := (List.getElem?_eq_some_iff.mp hi).1
  refine ⟨_, fun q x hq => ?_, hP1, hD1⟩
  by_cases hqa : q = a
  · subst hqa
    rw [up_self] at hq
    cases hq
    exact List.mem_of_getElem? (i := i) (List.getElem?_set_self hl)
  · rw [up_ne hqa] at hq
    obtain ⟨j, hj⟩ := List.getElem?_of_mem (hm q x hq)
    have hij : i ≠ j := fun h => by
      subst h
      rw [hi] at hj
      cases hj
      exact hqa rfl
    exact List.mem_of_getElem? (i := j) (by rw [List.getElem?_set_ne hij]; exact hj)
theorem rep_push {G : YG} {σ : AH} {ws : va_W} {a : Nat} {e : Ent} {H1 : Heap} (hm : ∀ q x, σ q = some x → (q, ent G x) ∈ ws)
    (hP1 : va_P (gD G) vCl (ws ++ [(a, ent G e)]) H1) (hD1 : va_D (Afr G) (ws ++ [(a, ent G e)])) : Rep G (up σ a e) H1 ∧ σ a = none ∧ gb G ≤ a := by
  have hlast : (ws ++ [(a, ent G e)])[ws.length]? = some (a, ent G e) := by simp
  have hn : σ a = none := by
    cases h : σ a with
    | none => rfl
    | some x =>
      obtain ⟨j, hj⟩ := List.getElem?_of_mem (hm a x h)
      have hjl := (List.getElem?_eq_some_iff.mp hj).1
      have := hD1.1 j ws.length (a, ent G x) (a, ent G e) (by rw [List.getElem?_append_left hjl]; exact hj) hlast rfl
      omega
  refine ⟨⟨_, fun q x hq => ?_, hP1, hD1⟩, hn, hD1.2 _ _ hlast⟩
  by_cases hqa : q = a
  · subst hqa
    rw [up_self] at hq
    cases hq
    exact List.mem_append_right _ List.mem_cons_self
  · rw [up_ne hqa] at hq
    exact List.mem_append_left _ (hm q x hq)
-- ===== what holds of the tables and of old cells all through =====
def nwOk (w : Cond) : Bool := match w with
  | .fieldLinkNest _ _ _ _ _ _ => true
  | .methodLinkNest _ _ _ _ => true
  | .castable _ _ => true
  | .declares _ => true
  | .privateMethod _ => true
  | .arrayOver _ => true
  | _ => false
theorem vy_warmP {x : MethodName} {s U : State} (hW : s.WarmedH U.vm) (hZ : va_Nw (.privateMethod x) s) : va_Nw (.privateMethod x) U := va_tabs rfl (rfl : (s.setVm U.vm).vm = U.vm) (by rw [Cond.privateMethod_setVm hW.alike]; exact hZ)
theorem vy_warmA {ty : FieldType} {s U : State} (hW : s.WarmedH U.vm) (hZ : va_Nw (.arrayOver ty) s) : va_Nw (.arrayOver ty) U := by
  have h1 : (Cond.arrayOver ty).before #[] (s.setVm U.vm) = true := by rw [Cond.arrayOver_setVmC hW.alike]; exact hZ
  have h2 : (Cond.arrayOver ty).before #[] U = (Cond.arrayOver ty).before #[] (s.setVm U.vm) := rfl
  exact h2.trans h1
theorem nw_warm {w : Cond} (h : nwOk w = true) {s U : State} (hW : s.WarmedH U.vm) (hZ : va_Nw w s) : va_Nw w U := by
  cases w <;> first | exact va_Nw.warmF hW hZ | exact va_Nw.warmM hW hZ | exact va_Nw.warmC hW hZ | exact va_Nw.warmD hW hZ | exact vy_warmP hW hZ | exact vy_warmA hW hZ | (exact absurd h (by simp [nwOk]))
def plainM (x : MethodName) : Prop := x.cls ≠ "java/lang/invoke/MethodHandle" ∧ x.cls ≠ "java/lang/invoke/VarHandle"
def Koc (G : YG) (C : String) (b : Nat) : Prop := (C = "java/lang/String" ∧ ∃ i, i < 9 ∧ b = gc G i) ∨ (C = "java/lang/Integer" ∧ ∃ j, j < 256 ∧ b = gc G (1000 + j))
def yStr : List (String × Nat × String) := [("LarderLocks", 36, ""), ("LarderLocks$Larder", 248, ""), ("LarderLocks$Larder", 250, ","), ("LarderLocks$Larder", 259, "<"), ("LarderLocks$Larder", 265, "?"), ("LarderLocks$Reader", 49, "maid"), ("LarderLocks$Reader", 72, "sx-."), ("LarderLocksModel", 198, "maid"), ("java/lang/Throwable", 81, ": ")]
def yLen : List Nat := [0, 0, 1, 1, 1, 4, 4, 4, 2]
def yByt : List (List Int32) := [[], [], [44], [60], [63], [109, 97, 105, 100], [115, 120, 45, 46], [109, 97, 105, 100], [58, 32]]
def yTens : Nat → Int32 := fun j => nI (48 + j / 10)
def yOnes : Nat → Int32 := fun j => nI (48 + j % 10)
def yZ (G : YG) : List (String × String × String × Value) := [("java/lang/String", "COMPACT_STRINGS", "Z", .int 1), ("java/lang/Integer$IntegerCache", "high", "I", .int 127), ("java/lang/Integer$IntegerCache", "cache", "[Ljava/lang/Integer;", .ref (gc G 20)), ("java/lang/Integer", "DigitOnes", "[B", .ref (gc G 21)), ("java/lang/Integer", "DigitTens", "[B", .ref (gc G 22)), ("jdk/internal/util/Preconditions", "SIOOBE_FORMATTER", "Ljava/util/function/BiFunction;", gv G 0), ("java/lang/Throwable", "UNASSIGNED_STACK", "[Ljava/lang/StackTraceElement;", gv G 1), ("java/lang/Throwable", "SUPPRESSED_SENTINEL", "Ljava/util/List;", gv G 2)]
def yT (G : YG) : List (FieldType × Nat × Nat × (Nat → Value)) := [(.object "java/lang/Integer", gc G 20, 256, fun j => .ref (gc G (1000 + j))), (.byte, gc G 21, 100, fun j => .int (yOnes j)), (.byte, gc G 22, 100, fun j => .int (yTens j)), (.int, (gs G).1, (gs G).2.1, fun j => .int ((gs G).2.2 j))]
def yNc : List (String × String) := [("LarderLocks$Refused", "LarderLocks$Wrong"), ("LarderLocks$Wrong", "LarderLocks$Refused")]
def ySite : MethodName := { cls := "LarderLocks", name := "<init>", desc := "()V" }
def ySig : Jvm.Lambda.Shape := { iface := "LarderLocks$Fit", name := "is", sam := ({ parameters := [Jvm.ClassFile.FieldType.int], returnType := (Option.some Jvm.ClassFile.FieldType.boolean) } : Jvm.ClassFile.MethodDescriptor), captured := [Jvm.ClassFile.FieldType.int], kind := 6, implClass := "LarderLocks", implName := "lambda$new$0", implDesc := ({ parameters := [Jvm.ClassFile.FieldType.int, Jvm.ClassFile.FieldType.int], returnType := (Option.some Jvm.ClassFile.FieldType.boolean) } : Jvm.ClassFile.MethodDescriptor), implItf := false, inst := ({ parameters := [Jvm.ClassFile.FieldType.int], returnType := (Option.some Jvm.ClassFile.FieldType.boolean) } : Jvm.ClassFile.MethodDescriptor) }
def yLam (G : YG) (U : State) : Prop := U.lambdaAt? ySite 66 42 ySig = some (gA G 9, none)
def Glob (G : YG) (U : State) : Prop :=
  va_K (gD G) vCl (yTys G) U ∧
  (∀ w ∈ lw_tbl, nwOk w = true → va_Nw w U) ∧
  (∀ (C : String) (x y : MethodName), plainM x → Cond.declares x ∈ lw_tbl → Cond.interfaceMethod x.cls x.cls x.name x.desc ∈ lw_tbl → Cond.publicMethod y ∈ lw_tbl → Cond.unhidden C x.name x.desc ∈ lw_tbl → Cond.castable C x.cls ∈ lw_tbl → va_Fw C x y U) ∧
  (∀ C, Cond.arrayOver (.object C) ∈ lw_tbl → va_AO C U) ∧
  (∀ z ∈ yNc, va_Nc z.1 z.2 U) ∧
  (∀ z ∈ yZ G, va_Z z.1 z.2.1 z.2.2.1 z.2.2.2 (Afr G) U U.heap) ∧
  (∀ (i : Nat) (z : String × Nat × String), yStr[i]? = some z → vk_R z.1 z.2.1 z.2.2 (gc G i) U) ∧
  (∀ C b, Koc G C b → va_O C b (Afr G) U U.heap) ∧
  (∀ i, i < 9 → va_OF "java/lang/String" "value" "[B" (.ref (gc G (10 + i))) (gc G i) (Afr G) U U.heap ∧ va_OF "java/lang/String" "coder" "B" (.int 0) (gc G i) (Afr G) U U.heap ∧ va_T .byte (gc G (10 + i)) (yLen.getD i 0) (fun j => .int ((yByt.getD i []).getD j 0)) (Afr G) U U.heap) ∧
  (∀ j, j < 256 → va_OF "java/lang/Integer" "value" "I" (.int (vb_c j)) (gc G (1000 + j)) (Afr G) U U.heap) ∧
  (∀ z ∈ yT G, va_T z.1 z.2.1 z.2.2.1 z.2.2.2 (Afr G) U U.heap) ∧
  yLam G U ∧ gb G ≤ U.heap.size ∧ (∀ i, (gv G i).isRef = true)
theorem yLam_warm {G : YG} {s t : State} (hW : s.WarmedH t.vm) (h : yLam G s) : yLam G t := by
  unfold yLam at h ⊢
  obtain ⟨m, kc, cf, i0, p0, l, hm, hk, hcf, hsh, hin, hfind, hmade, hcall, hl⟩ := State.lambdaAt?_spec h
  have hcall' : t.lambdaCallable ySig (gA G 9) = true := by
    have hA := hW.alike
    simp only [State.lambdaCallable, hA.findClass, hA.assignable, hA.superclasses, hA.declaredIn] at hcall ⊢
    exact hcall
  obtain ⟨kc', hk', he⟩ := hW.alike.2.2 _ _ hk
  have hm' : t.methodNamed? ySite = some m := by
    have := State.methodNamed?_setVm (s := s) hW.alike ySite
    rw [hm] at this
    exact this
  have hcf' : kc'.cf = some cf := by rw [he]; exact hcf
  have hin' : (m.idx, 66, 42, ySig) ∈ Lambda.sitesOf kc' := by rw [he]; exact hin
  have hfind' : (kc'.callSites.find? fun y => y.1 == m.idx && y.2.1 == 66) = some (i0, p0, l) := by rw [he]; exact hfind
  have hmade' := Lambda.isMade_warmer hW hmade
  obtain ⟨m2, k2, hm2, hk2, hjdk, howes⟩ := State.lambdaAt?_road h
  cases hm.symm.trans hm2
  cases hk.symm.trans hk2
  have hjdk' : jdkName kc'.name = false := by rw [he]; exact hjdk
  have howes' : (t.vm.findClass ySig.iface).bind (Lambda.owesInit t.vm) = none := by
    rw [hW.alike.findClass]
    cases hfi : s.vm.findClass ySig.iface with
    | none => rfl
    | some i => rw [hfi] at howes; simpa [Lambda.owesInit_alike hW.alike] using howes
  have hany : ((Lambda.sitesOf kc').any fun y => decide (y = (m.idx, 66, 42, ySig))) = true := by simpa using hin'
  rcases hl with ⟨a, cell, rfl, h1, hcap, hcell, -, hvm, hslots⟩ | ⟨rfl, -, hcap⟩
  · cases h1
  · simp [State.lambdaAt?, guard, hjdk', howes', hm', hk', hcf', hsh, hany, hfind', hcap, hmade', hcall']
theorem Glob.warm {G : YG} {s U : State} (hW : s.WarmedH U.vm) (hz : s.heap.size ≤ U.heap.size) (hq : ∀ a : Nat, a < s.heap.size → ¬ Afr G a → U.heap[a]? = s.heap[a]?) (h : Glob G s) : Glob G U := by
  obtain ⟨h1, h2, h3, h4, h5, h6, h7, h8, h9, h10, h11, h12, h13, h14⟩ := h
  have hA := hW.alike
  refine ⟨va_K.moved hA h1, fun w hw hk => nw_warm hk hW (h2 w hw hk), fun C x y hx a1 a2 a3 a4 a5 => va_Fw.moved hx hA (h3 C x y hx a1 a2 a3 a4 a5), fun C hC => va_AO.moved hA (h4 C hC), fun z hz => va_Nc.moved hA (h5 z hz),
    fun z hz => (va_Z.moved hA (h6 z hz)).kept hq, fun i z hz => vk_R.warm hW (h7 i z hz), fun C b hb => (va_O.moved hA (h8 C b hb)).kept hq, fun i hi => ?_, fun j hj => (va_OF.moved hA (h10 j hj)).kept hq, fun z hz => (va_T.moved hA (h11 z hz)).kept hq, yLam_warm hW h12, Nat.le_trans h13 hz, h14⟩
  obtain ⟨a1, a2, a3⟩ := h9 i hi
  exact ⟨(va_OF.moved hA a1).kept hq, (va_OF.moved hA a2).kept hq, (va_T.moved hA a3).kept hq⟩
theorem Glob.calling {G : YG} {U : State} (h : Glob G U) (g : JFrame) (mk : MethodId) (a : Array Value) : Glob G (U.calling g mk a) :=
  Glob.warm (s := U) (U := U.calling g mk a) (State.WarmedH.refl U) (Nat.le_refl _) (fun _ _ _ => rfl) h
-- ===== contracts =====
def yroom (d mc ms : Nat) : Room := { frames := d, cells := mc, slots := ms, locals := 64 * d }
def yQ (G : YG) (Post : YR → AH → Prop) : Array Value → State → Outcome → State → Prop := fun _ st o t => (∃ v σ, o = .returned v ∧ Rep G σ t.heap ∧ Post (.inl v) σ) ∧ va_F (Afr G) st t
def yX (G : YG) (Post : YR → AH → Prop) : String → Addr → State → State → Prop := fun E q st t => (∃ σ, Rep G σ t.heap ∧ Post (.inr (E, q)) σ) ∧ va_F (Afr G) st t
def yPc (G : YG) (as : List Value) (σ : AH) : Array Value → State → Prop := va_Pc as (fun U => Glob G U ∧ Rep G σ U.heap)
def Con (l : Launch) (y : MethodName) (cc : ByteArray) (nL : Nat) (ret : Option FieldType) (G : YG) (d mc ms : Nat) (as : List Value) (σ : AH) (Post : YR → AH → Prop) : Prop :=
  vz_Met l y (ws_ y cc nL ret) (yroom d mc ms) (yPc G as σ) (yQ G Post) (yX G Post) mc ms (Afr G)
def ConW (l : Launch) (y : MethodName) (cc : ByteArray) (nL : Nat) (ret : Option FieldType) (hh : List (Nat × Nat × Nat × Nat)) (G : YG) (d mc ms : Nat) (as : List Value) (σ : AH) (Post : YR → AH → Prop) : Prop :=
  vz_Met l y (wsW_ y cc nL ret hh) (yroom d mc ms) (yPc G as σ) (yQ G Post) (yX G Post) mc ms (Afr G)
theorem yPc_blind {G : YG} {as : List Value} {σ : AH} : FrameBlind (yPc G as σ) := fun _ _ g mk q => ⟨q.1, Glob.calling q.2.1 g mk _, q.2.2⟩
-- ===== a body's state =====
def YB (y : MethodName) (cc : ByteArray) (nL : Nat) (ret : Option FieldType) (hh : List (Nat × Nat × Nat × Nat)) (G : YG) (p : Program) (s : State) (m : MethodId) (args : Array Value) (meth : Method) (c : Code) : Prop :=
  p.tables.exec = Jvm.exec ∧ c.code = cc ∧ meth.sig.returnType = ret ∧ meth.locks = false ∧ c.maxLocals = nL ∧ s.vm.findClass y.cls = some m.cls ∧ (meth.name = y.name ∧ s.methodNamed? y = some m) ∧ (∀ w ∈ lw_all, w.before args s = true) ∧ c.exceptionTable.toList = tableOf hh ∧ Glob G s
abbrev YE : Type := List Frame → Array Value → State → State → Prop
def yEnd (G : YG) (R : Room) (Post : YR → AH → Prop) : YE := fun below args s => vz_MQ below (yQ G Post) (yX G Post) args s R.cells R.slots (Afr G)
def X (l : Launch) (y : MethodName) (cc : ByteArray) (nL : Nat) (ret : Option FieldType) (hh : List (Nat × Nat × Nat × Nat)) (G : YG) (R : Room) (Z : YE) (pc : Nat) (L : List (Nat × Value)) (st : List Value) (σ : AH) (k n : Nat) : Prop :=
  ∀ (p : Program) (e : Env) (s : State) (m : MethodId) (args : Array Value) (below : List Frame) (meth : Method) (c : Code) (H : Heap) (locs : List Loc) (cells slots : Nat) (ls : Array Slot), YB y cc nL ret hh G p s m args meth c → Rep G σ H → va_S (Afr G) s.heap H locs → lv_has ls nL L → cells + k = R.cells → slots + n = R.slots →
    W p l e R s m args below meth c H locs cells slots (Z below args s) (F0 m pc ls st)
/-- the same, with q thrown -/
def XT (l : Launch) (y : MethodName) (cc : ByteArray) (nL : Nat) (ret : Option FieldType) (hh : List (Nat × Nat × Nat × Nat)) (G : YG) (R : Room) (Z : YE) (pc : Nat) (L : List (Nat × Value)) (st : List Value) (E : String) (q : Nat) (σ : AH) (k n : Nat) : Prop :=
  ∀ (p : Program) (e : Env) (s : State) (m : MethodId) (args : Array Value) (below : List Frame) (meth : Method) (c : Code) (H : Heap) (locs : List Loc) (cells slots : Nat) (ls : Array Slot) (ce : Cell), YB y cc nL ret hh G p s m args meth c → Rep G σ H → va_S (Afr G) s.heap H locs → lv_has ls nL L → cells + k = R.cells → slots + n = R.slots →
    H[q]? = some ce → ce.vm = .none → s.vm.findClass E = some ce.cls →
    vz_W p l e R s m args below meth c H locs cells slots (Z below args s) (F0 m pc ls st) q
theorem con_of {l : Launch} {y : MethodName} {cc : ByteArray} {nL : Nat} {ret : Option FieldType} {G : YG} {d mc ms : Nat} {as : List Value} {σ : AH} {Post : YR → AH → Prop} (hy : plainName y.cls = true) (hsl : (lg_sl as).length ≤ nL)
    (h : X l y cc nL ret [] G (yroom d mc ms) (yEnd G (yroom d mc ms) Post) 0 (lv_args 0 as) [] σ mc ms) : Con l y cc nL ret G d mc ms as σ Post := by
  refine vz_ofW (cc := cc) (maxL := nL) (ret := ret) hy rfl ?_
  intro p e s m args below meth c s₁ B hml ht hv
  obtain ⟨rfl, hG, hR⟩ := hv
  have hts := atoms_spec (ws := ws_ y cc nL ret) B.pre
  have hl := lv_entry as (n := nL) hsl
  rw [lg_entry_eq]
  refine h p e s m _ below meth c s.heap [] 0 0 _ ⟨B.exec, B.bytes, B.returns, B.notSynchronized, hml, findClass_of_methodNamed B.named, ⟨(name_of_methodNamed B.named B.method).1, B.named⟩, fun w hw => hts w (List.mem_cons_of_mem _ hw), ?_, hG⟩ hR va_S.rf hl (Nat.zero_add _) (Nat.zero_add _)
  exact List.eq_nil_iff_forall_not_mem.mpr (fun x hx => ht x hx)
theorem conW_of {l : Launch} {y : MethodName} {cc : ByteArray} {nL : Nat} {ret : Option FieldType} {hh : List (Nat × Nat × Nat × Nat)} {G : YG} {d mc ms : Nat} {as : List Value} {σ : AH} {Post : YR → AH → Prop} (hy : plainName y.cls = true) (hsl : (lg_sl as).length ≤ nL)
    (h : X l y cc nL ret hh G (yroom d mc ms) (yEnd G (yroom d mc ms) Post) 0 (lv_args 0 as) [] σ mc ms) : ConW l y cc nL ret hh G d mc ms as σ Post := by
  refine vz_ofWH (cc := cc) (maxL := nL) (ret := ret) (hh := hh) hy rfl ?_
  intro p e s m args below meth c s₁ B hml hv
  obtain ⟨rfl, hG, hR⟩ := hv
  have hts := atoms_spec (ws := wsW_ y cc nL ret hh) B.pre
  have hl := lv_entry as (n := nL) hsl
  rw [lg_entry_eq]
  exact h p e s m _ below meth c s.heap [] 0 0 _ ⟨B.exec, B.bytes, B.returns, B.notSynchronized, hml, findClass_of_methodNamed B.named, ⟨(name_of_methodNamed B.named B.method).1, B.named⟩, fun w hw => hts w (List.mem_cons_of_mem _ hw), vz_table (x := y) B (hts _ List.mem_cons_self), hG⟩ hR va_S.rf hl (Nat.zero_add _) (Nat.zero_add _)
