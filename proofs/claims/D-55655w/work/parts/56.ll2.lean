set_option maxRecDepth 100000
/-- nothing but what V says is written -/
def Kp (V : Nat → Prop) (σ τ : AH) : Prop := ∀ r, ¬ V r → τ r = σ r
theorem Kp.rf {V : Nat → Prop} {σ : AH} : Kp V σ σ := fun _ _ => rfl
theorem Kp.put {V : Nat → Prop} {σ τ υ : AH} {a : Nat} (h : Kp V σ τ) (hu : ∀ q, q ≠ a → υ q = τ q) (hv : V a) : Kp V σ υ := fun r hr => (hu r (fun z => hr (by rw [z]; exact hv))).trans (h r hr)
theorem Fr.ofKp {W V : Nat → Prop} {σ τ : AH} (hK : Kp V σ τ) (hV : ∀ r, V r → σ r = none ∨ (W r ∧ τ r ≠ none ∧ ∀ e, σ r = some e → imm (tag e) = false)) : Fr W σ τ := by
  refine ⟨fun r e hr hw => ?_, fun r hr => ?_, fun r e hr hi => ?_⟩
  · by_cases hv : V r
    · rcases hV r hv with q | q
      · rw [q] at hr; cases hr
      · exact absurd q.1 hw
    · rw [hK r hv]; exact hr
  · by_cases hv : V r
    · rcases hV r hv with q | q
      · exact absurd q hr
      · exact q.2.1
    · rw [hK r hv]; exact hr
  · by_cases hv : V r
    · rcases hV r hv with q | q
      · rw [q] at hr; cases hr
      · rw [q.2.2 e hr] at hi; cases hi
    · rw [hK r hv]; exact hr
/-- an address is written: it was there, is there, and can be written -/
theorem wr_ok {W : Nat → Prop} {σ τ : AH} {r : Nat} {e0 e1 : Ent} (hw : W r) (h0 : σ r = some e0) (h1 : τ r = some e1) (hi : imm (tag e0) = false) : σ r = none ∨ (W r ∧ τ r ≠ none ∧ ∀ e, σ r = some e → imm (tag e) = false) := Or.inr ⟨hw, (by rw [h1]; exact fun z => by cases z), fun e he => by rw [h0] at he; cases he; exact hi⟩
theorem LL.pc {σ : AH} {p : Nat} {mc : Int32} {ns : NL} (h : LL σ p mc ns) : σ p = some (.inr (11, [.int mc, .int (nI ns.length), va_rf (nx ns 0), va_rf (pv ns ns.length)])) := h.1
theorem LL.rc {G : YG} {σ : AH} {p : Nat} {mc : Int32} {ns : NL} (h : LL σ p mc ns) : rcv G σ "java/util/LinkedList" p := rcv_of vC_11 h.1
theorem LL.mem {σ : AH} {p : Nat} {mc : Int32} {ns : NL} (h : LL σ p mc ns) {i : Nat} {x : Nat × Nat} (hx : ns[i]? = some x) : LW p ns x.1 := Or.inr ⟨x, List.mem_of_getElem? hx, rfl⟩
theorem LL.pne {σ : AH} {p : Nat} {mc : Int32} {ns : NL} (h : LL σ p mc ns) {i : Nat} {x : Nat × Nat} (hx : ns[i]? = some x) : x.1 ≠ p := fun z => by
  have h1 := h.2.1 i x hx
  rw [z, h.1] at h1
  cases h1
theorem LL.nn {σ : AH} {p : Nat} {mc : Int32} {ns : NL} (h : LL σ p mc ns) {i q : Nat} {x : Nat × Nat} (hx : ns[i]? = some x) (hq : σ q = none) : x.1 ≠ q := fun z => by
  have h1 := h.2.1 i x hx
  rw [z, hq] at h1
  cases h1
theorem LL.len {σ : AH} {p : Nat} {mc : Int32} {ns : NL} (h : LL σ p mc ns) : ns.length < 2 ^ 20 := h.2.2.2
set_option maxHeartbeats 4000000 in
set_option maxRecDepth 100000 in
theorem con_J0_init {l : Launch} {G : YG} {σ : AH} {p : Nat}  : Con l yJ0_init cJ0_init 1 none G 1 0 0 [.ref p] σ (PV fun τ => τ = σ) := by
  refine con_of (by decide) (Nat.le_of_ble_eq_true rfl) ?_
  refine x_locs (L' := [(0, .ref p)]) [0] rfl ?_
  refine x_aload_n dJ0_init_0 0 rfl rfl ?_
  refine x_objInit dJ0_init_1 q158 q135 q136 ⟨by first | exact Nat.le_of_ble_eq_true rfl | (unfold yroom; simp only; omega), by first | exact Nat.le_of_ble_eq_true rfl | (unfold yroom; simp only; omega)⟩ rfl ?_
  exact x_vret dJ0_init_4 rfl (⟨rfl, rfl⟩)
set_option maxHeartbeats 4000000 in
set_option maxRecDepth 100000 in
theorem con_J1_init {l : Launch} {G : YG} {σ : AH} {p : Nat} (hp : σ p = some (.inr (11, [.int 0, .int 0, .null, .null]))) : Con l yJ1_init cJ1_init 1 none G 2 0 0 [.ref p] σ (PV fun τ => τ p = some (.inr (11, [.int 0, .int 0, .null, .null])) ∧ ∀ r, r ≠ p → τ r = σ r) := by
  refine con_of (by decide) (Nat.le_of_ble_eq_true rfl) ?_
  refine x_locs (L' := [(0, .ref p)]) [0] rfl ?_
  refine x_aload_n dJ1_init_0 0 rfl rfl ?_
  refine x_callI dJ1_init_1 (con_J0_init) (lw_meth q157) q87 q155 q156 rfl (np := 0) (by decide +kernel) rfl ⟨Nat.le_of_ble_eq_true rfl, Nat.le_of_ble_eq_true rfl⟩ (Nat.le_of_ble_eq_true rfl) rfl (by decide) (by decide) (rV fun σ1 h0 => ?_) nV'
  subst h0
  refine x_aload_n dJ1_init_4 0 rfl rfl ?_
  refine x_iconst (v := nI 0) dJ1_init_5 (by decide) ?_
  refine x_put (fs' := [.int (nI 0), .int 0, .null, .null]) dJ1_init_6 vC_11 in_J4 tyJ4_ok nmJ4 hp 0 (by decide) q167 rfl rfl (rfl) (rfl) (Nat.le_of_ble_eq_true rfl) rfl (fun σ3 hc5 hu4 => ?_)
  exact x_vret dJ1_init_9 rfl (⟨rfl, hc5, hu4⟩)
set_option maxHeartbeats 4000000 in
set_option maxRecDepth 100000 in
theorem con_J3_init {l : Launch} {G : YG} {σ : AH} {p : Nat} (hp : σ p = some (.inr (11, [.int 0, .int 0, .null, .null]))) : Con l yJ3_init cJ3_init 1 none G 3 0 0 [.ref p] σ (PV fun τ => τ p = some (.inr (11, [.int 0, .int 0, .null, .null])) ∧ ∀ r, r ≠ p → τ r = σ r) := by
  refine con_of (by decide) (Nat.le_of_ble_eq_true rfl) ?_
  refine x_locs (L' := [(0, .ref p)]) [0] rfl ?_
  refine x_aload_n dJ3_init_0 0 rfl rfl ?_
  refine x_callI dJ3_init_1 (con_J1_init hp) (lw_meth q154) q88 q191 q153 rfl (np := 0) (by decide +kernel) rfl ⟨Nat.le_of_ble_eq_true rfl, Nat.le_of_ble_eq_true rfl⟩ (Nat.le_of_ble_eq_true rfl) rfl (by decide) (by decide) (rV fun σ1 h0 => ?_) nV'
  exact x_vret dJ3_init_4 rfl (⟨rfl, h0⟩)
set_option maxHeartbeats 4000000 in
set_option maxRecDepth 100000 in
theorem con_J4_init {l : Launch} {G : YG} {σ : AH} {p : Nat} (hp : σ p = some (.inr (11, [.int 0, .int 0, .null, .null]))) : Con l yJ4_init cJ4_init 1 none G 4 0 0 [.ref p] σ (PV fun τ => LL τ p 0 [] ∧ ∀ r, r ≠ p → τ r = σ r) := by
  refine con_of (by decide) (Nat.le_of_ble_eq_true rfl) ?_
  refine x_locs (L' := [(0, .ref p)]) [0] rfl ?_
  refine x_aload_n dJ4_init_0 0 rfl rfl ?_
  refine x_callI dJ4_init_1 (con_J3_init hp) (lw_meth q190) q90 q188 q189 rfl (np := 0) (by decide +kernel) rfl ⟨Nat.le_of_ble_eq_true rfl, Nat.le_of_ble_eq_true rfl⟩ (Nat.le_of_ble_eq_true rfl) rfl (by decide) (by decide) (rV fun σ1 h0 => ?_) nV'
  refine x_aload_n dJ4_init_4 0 rfl rfl ?_
  refine x_iconst (v := nI 0) dJ4_init_5 (by decide) ?_
  refine x_put (fs' := [.int 0, .int (nI 0), .null, .null]) dJ4_init_6 vC_11 in_J4 tyJ4_ok nmJ4 h0.1 1 (by decide) q192 rfl rfl (rfl) (rfl) (Nat.le_of_ble_eq_true rfl) rfl (fun σ3 hc5 hu4 => ?_)
  exact x_vret dJ4_init_9 rfl (⟨rfl, ⟨hc5, (fun i x hx => by cases hx), List.nodup_nil, by decide⟩, fun r hr => (hu4 r hr).trans (h0.2 r hr)⟩)
set_option maxHeartbeats 4000000 in
set_option maxRecDepth 100000 in
theorem con_J26_init_nn {l : Launch} {G : YG} {σ : AH} {q it : Nat} (hq : σ q = some (.inr (12, [.null, .null, .null]))) : Con l yJ26_init cJ26_init 4 none G 1 0 0 [.ref q, .null, .ref it, .null] σ (PV fun τ => τ q = some (.inr (12, [.ref it, .null, .null])) ∧ ∀ r, r ≠ q → τ r = σ r) := by
  refine con_of (by decide) (Nat.le_of_ble_eq_true rfl) ?_
  refine x_locs (L' := [(0, .ref q), (1, .null), (2, .ref it), (3, .null)]) [0, 1, 2, 3] rfl ?_
  have hK : Kp (fun r => r = q) σ σ := Kp.rf
  refine x_aload_n dJ26_init_0 0 rfl rfl ?_
  refine x_objInit dJ26_init_1 q929 q135 q136 ⟨by first | exact Nat.le_of_ble_eq_true rfl | (unfold yroom; simp only; omega), by first | exact Nat.le_of_ble_eq_true rfl | (unfold yroom; simp only; omega)⟩ rfl ?_
  refine x_aload_n dJ26_init_4 0 rfl rfl ?_
  refine x_aload_n dJ26_init_5 2 rfl rfl ?_
  refine x_put (fs' := [.ref it, .null, .null]) dJ26_init_6 vC_12 in_J26 tyJ26_ok nmJ26 hq 0 (by decide) q930 rfl rfl (rfl) (rfl) (Nat.le_of_ble_eq_true rfl) rfl (fun σ1 hc3 hu2 => ?_)
  have hK := hK.put hu2 rfl
  refine x_aload_n dJ26_init_9 0 rfl rfl ?_
  refine x_aload_nN dJ26_init_10 3 rfl rfl ?_
  refine x_put (fs' := [.ref it, .null, .null]) dJ26_init_11 vC_12 in_J26 tyJ26_ok nmJ26 hc3 1 (by decide) q933 rfl rfl (rfl) (rfl) (Nat.le_of_ble_eq_true rfl) rfl (fun σ4 hc6 hu5 => ?_)
  have hK := hK.put hu5 rfl
  refine x_aload_n dJ26_init_14 0 rfl rfl ?_
  refine x_aload_nN dJ26_init_15 1 rfl rfl ?_
  refine x_put (fs' := [.ref it, .null, .null]) dJ26_init_16 vC_12 in_J26 tyJ26_ok nmJ26 hc6 2 (by decide) q936 rfl rfl (rfl) (rfl) (Nat.le_of_ble_eq_true rfl) rfl (fun σ7 hc9 hu8 => ?_)
  have hK := hK.put hu8 rfl
  exact x_vret dJ26_init_19 rfl (⟨rfl, hc9, hK⟩)
set_option maxHeartbeats 4000000 in
set_option maxRecDepth 100000 in
theorem con_J26_init_na {l : Launch} {G : YG} {σ : AH} {q it ne : Nat} (hq : σ q = some (.inr (12, [.null, .null, .null]))) : Con l yJ26_init cJ26_init 4 none G 1 0 0 [.ref q, .null, .ref it, .ref ne] σ (PV fun τ => τ q = some (.inr (12, [.ref it, .ref ne, .null])) ∧ ∀ r, r ≠ q → τ r = σ r) := by
  refine con_of (by decide) (Nat.le_of_ble_eq_true rfl) ?_
  refine x_locs (L' := [(0, .ref q), (1, .null), (2, .ref it), (3, .ref ne)]) [0, 1, 2, 3] rfl ?_
  have hK : Kp (fun r => r = q) σ σ := Kp.rf
  refine x_aload_n dJ26_init_0 0 rfl rfl ?_
  refine x_objInit dJ26_init_1 q929 q135 q136 ⟨by first | exact Nat.le_of_ble_eq_true rfl | (unfold yroom; simp only; omega), by first | exact Nat.le_of_ble_eq_true rfl | (unfold yroom; simp only; omega)⟩ rfl ?_
  refine x_aload_n dJ26_init_4 0 rfl rfl ?_
  refine x_aload_n dJ26_init_5 2 rfl rfl ?_
  refine x_put (fs' := [.ref it, .null, .null]) dJ26_init_6 vC_12 in_J26 tyJ26_ok nmJ26 hq 0 (by decide) q930 rfl rfl (rfl) (rfl) (Nat.le_of_ble_eq_true rfl) rfl (fun σ1 hc3 hu2 => ?_)
  have hK := hK.put hu2 rfl
  refine x_aload_n dJ26_init_9 0 rfl rfl ?_
  refine x_aload_n dJ26_init_10 3 rfl rfl ?_
  refine x_put (fs' := [.ref it, .ref ne, .null]) dJ26_init_11 vC_12 in_J26 tyJ26_ok nmJ26 hc3 1 (by decide) q933 rfl rfl (rfl) (rfl) (Nat.le_of_ble_eq_true rfl) rfl (fun σ4 hc6 hu5 => ?_)
  have hK := hK.put hu5 rfl
  refine x_aload_n dJ26_init_14 0 rfl rfl ?_
  refine x_aload_nN dJ26_init_15 1 rfl rfl ?_
  refine x_put (fs' := [.ref it, .ref ne, .null]) dJ26_init_16 vC_12 in_J26 tyJ26_ok nmJ26 hc6 2 (by decide) q936 rfl rfl (rfl) (rfl) (Nat.le_of_ble_eq_true rfl) rfl (fun σ7 hc9 hu8 => ?_)
  have hK := hK.put hu8 rfl
  exact x_vret dJ26_init_19 rfl (⟨rfl, hc9, hK⟩)
set_option maxHeartbeats 4000000 in
set_option maxRecDepth 100000 in
theorem con_J26_init_an {l : Launch} {G : YG} {σ : AH} {q it pr : Nat} (hq : σ q = some (.inr (12, [.null, .null, .null]))) : Con l yJ26_init cJ26_init 4 none G 1 0 0 [.ref q, .ref pr, .ref it, .null] σ (PV fun τ => τ q = some (.inr (12, [.ref it, .null, .ref pr])) ∧ ∀ r, r ≠ q → τ r = σ r) := by
  refine con_of (by decide) (Nat.le_of_ble_eq_true rfl) ?_
  refine x_locs (L' := [(0, .ref q), (1, .ref pr), (2, .ref it), (3, .null)]) [0, 1, 2, 3] rfl ?_
  have hK : Kp (fun r => r = q) σ σ := Kp.rf
  refine x_aload_n dJ26_init_0 0 rfl rfl ?_
  refine x_objInit dJ26_init_1 q929 q135 q136 ⟨by first | exact Nat.le_of_ble_eq_true rfl | (unfold yroom; simp only; omega), by first | exact Nat.le_of_ble_eq_true rfl | (unfold yroom; simp only; omega)⟩ rfl ?_
  refine x_aload_n dJ26_init_4 0 rfl rfl ?_
  refine x_aload_n dJ26_init_5 2 rfl rfl ?_
  refine x_put (fs' := [.ref it, .null, .null]) dJ26_init_6 vC_12 in_J26 tyJ26_ok nmJ26 hq 0 (by decide) q930 rfl rfl (rfl) (rfl) (Nat.le_of_ble_eq_true rfl) rfl (fun σ1 hc3 hu2 => ?_)
  have hK := hK.put hu2 rfl
  refine x_aload_n dJ26_init_9 0 rfl rfl ?_
  refine x_aload_nN dJ26_init_10 3 rfl rfl ?_
  refine x_put (fs' := [.ref it, .null, .null]) dJ26_init_11 vC_12 in_J26 tyJ26_ok nmJ26 hc3 1 (by decide) q933 rfl rfl (rfl) (rfl) (Nat.le_of_ble_eq_true rfl) rfl (fun σ4 hc6 hu5 => ?_)
  have hK := hK.put hu5 rfl
  refine x_aload_n dJ26_init_14 0 rfl rfl ?_
  refine x_aload_n dJ26_init_15 1 rfl rfl ?_
  refine x_put (fs' := [.ref it, .null, .ref pr]) dJ26_init_16 vC_12 in_J26 tyJ26_ok nmJ26 hc6 2 (by decide) q936 rfl rfl (rfl) (rfl) (Nat.le_of_ble_eq_true rfl) rfl (fun σ7 hc9 hu8 => ?_)
  have hK := hK.put hu8 rfl
  exact x_vret dJ26_init_19 rfl (⟨rfl, hc9, hK⟩)
set_option maxHeartbeats 4000000 in
set_option maxRecDepth 100000 in
theorem con_J26_init_aa {l : Launch} {G : YG} {σ : AH} {q it pr ne : Nat} (hq : σ q = some (.inr (12, [.null, .null, .null]))) : Con l yJ26_init cJ26_init 4 none G 1 0 0 [.ref q, .ref pr, .ref it, .ref ne] σ (PV fun τ => τ q = some (.inr (12, [.ref it, .ref ne, .ref pr])) ∧ ∀ r, r ≠ q → τ r = σ r) := by
  refine con_of (by decide) (Nat.le_of_ble_eq_true rfl) ?_
  refine x_locs (L' := [(0, .ref q), (1, .ref pr), (2, .ref it), (3, .ref ne)]) [0, 1, 2, 3] rfl ?_
  have hK : Kp (fun r => r = q) σ σ := Kp.rf
  refine x_aload_n dJ26_init_0 0 rfl rfl ?_
  refine x_objInit dJ26_init_1 q929 q135 q136 ⟨by first | exact Nat.le_of_ble_eq_true rfl | (unfold yroom; simp only; omega), by first | exact Nat.le_of_ble_eq_true rfl | (unfold yroom; simp only; omega)⟩ rfl ?_
  refine x_aload_n dJ26_init_4 0 rfl rfl ?_
  refine x_aload_n dJ26_init_5 2 rfl rfl ?_
  refine x_put (fs' := [.ref it, .null, .null]) dJ26_init_6 vC_12 in_J26 tyJ26_ok nmJ26 hq 0 (by decide) q930 rfl rfl (rfl) (rfl) (Nat.le_of_ble_eq_true rfl) rfl (fun σ1 hc3 hu2 => ?_)
  have hK := hK.put hu2 rfl
  refine x_aload_n dJ26_init_9 0 rfl rfl ?_
  refine x_aload_n dJ26_init_10 3 rfl rfl ?_
  refine x_put (fs' := [.ref it, .ref ne, .null]) dJ26_init_11 vC_12 in_J26 tyJ26_ok nmJ26 hc3 1 (by decide) q933 rfl rfl (rfl) (rfl) (Nat.le_of_ble_eq_true rfl) rfl (fun σ4 hc6 hu5 => ?_)
  have hK := hK.put hu5 rfl
  refine x_aload_n dJ26_init_14 0 rfl rfl ?_
  refine x_aload_n dJ26_init_15 1 rfl rfl ?_
  refine x_put (fs' := [.ref it, .ref ne, .ref pr]) dJ26_init_16 vC_12 in_J26 tyJ26_ok nmJ26 hc6 2 (by decide) q936 rfl rfl (rfl) (rfl) (Nat.le_of_ble_eq_true rfl) rfl (fun σ7 hc9 hu8 => ?_)
  have hK := hK.put hu8 rfl
  exact x_vret dJ26_init_19 rfl (⟨rfl, hc9, hK⟩)
theorem get_lt' {α : Type} {t : List α} {p : Nat} {c : α} (h : t[p]? = some c) : p < t.length := (List.getElem?_eq_some_iff.mp h).1
set_option maxHeartbeats 4000000 in
set_option maxRecDepth 100000 in
theorem con_J4_linkLast {l : Launch} {G : YG} {σ : AH} {p : Nat} {mc : Int32} {ns : NL} {it : Nat} (hL : LL σ p mc ns) (hl : ns.length + 1 < 2 ^ 20) : Con l yJ4_linkLast cJ4_linkLast 4 none G 2 1 3 [.ref p, .ref it] σ (PV fun τ => ∃ q, σ q = none ∧ LL τ p (mc + 1) (ns.take ns.length ++ (q, it) :: ns.drop ns.length) ∧ Fr (LW p ns) σ τ) := by
  refine con_of (by decide) (Nat.le_of_ble_eq_true rfl) ?_
  refine x_locs (L' := [(0, .ref p), (1, .ref it)]) [0, 1] rfl ?_
  rcases Nat.eq_zero_or_pos ns.length with h0 | h0
  · have hns : ns = [] := List.eq_nil_of_length_eq_zero h0
    subst hns
    have hp : σ p = some (.inr (11, [.int mc, .int (nI 0), .null, .null])) := hL.1
    refine x_aload_n dJ4_linkLast_0 0 rfl rfl ?_
    refine x_get dJ4_linkLast_1 vC_11 in_J4 hp 3 (by decide) q195 rfl ?_
    refine x_astore_nN (i := 2) (L' := [(2, .null), (0, .ref p), (1, .ref it)]) dJ4_linkLast_4 rfl (by decide) rfl ?_
    have hp0 := hp
    refine x_new (fs := [.null, .null, .null]) dJ4_linkLast_5 vC_12 in_J26 tyJ26_ok q924 q925 q117 rfl (by omega) (by omega) (fun q σ1 hn2 hb3 hc4 hu5 => ?_)
    have n_p_q : p ≠ q := cell_nn hn2 hp
    have hp := ro_new hn2 hu5 _ _ hp
    have hK : Kp (fun r => r = p ∨ r = q) σ σ1 := fun r hr => hu5 r (fun z => hr (Or.inr z))
    refine x_dup dJ4_linkLast_8 rfl ?_
    refine x_aload_nN dJ4_linkLast_9 0 rfl rfl ?_
    refine x_aload_n dJ4_linkLast_10 2 rfl rfl ?_
    refine x_null dJ4_linkLast_11 ?_
    refine x_callI dJ4_linkLast_12 (con_J26_init_nn hc4) (lw_meth q928) q117 q926 q927 rfl (np := 3) (by decide +kernel) rfl ⟨Nat.le_of_ble_eq_true rfl, Nat.le_of_ble_eq_true rfl⟩ (Nat.le_of_ble_eq_true rfl) rfl (Nat.zero_le _) (Nat.zero_le _) (rV fun σ6 h1 => ?_) nV'
    have hp := at_put h1.2 hp (cell_ne hc4 hp rfl)
    have hK := hK.put h1.2 (Or.inr rfl)
    have hc8 := h1.1
    refine x_astore_n (i := 3) (L' := [(3, .ref q), (2, .null), (0, .ref p), (1, .ref it)]) dJ4_linkLast_15 rfl (by decide) rfl ?_
    refine x_aload_n dJ4_linkLast_16 2 rfl rfl ?_
    refine x_aload_n dJ4_linkLast_17 0 rfl rfl ?_
    refine x_put (fs' := [.int mc, .int (nI 0), .null, .ref q]) dJ4_linkLast_18 vC_11 in_J4 tyJ4_ok nmJ4 hp 3 (by decide) q195 rfl rfl (rfl) (rfl) (Nat.le_of_ble_eq_true rfl) rfl (fun σ9 hc11 hu10 => ?_)
    have hc8 := at_put hu10 hc8 (cell_ne hp hc8 rfl)
    have hK := hK.put hu10 (Or.inl rfl)
    refine x_aload_nN dJ4_linkLast_21 1 rfl rfl ?_
    refine x_ifnonnullN dJ4_linkLast_22 ?_
    refine x_aload_n dJ4_linkLast_25 2 rfl rfl ?_
    refine x_aload_n dJ4_linkLast_26 0 rfl rfl ?_
    refine x_put (fs' := [.int mc, .int (nI 0), .ref q, .ref q]) dJ4_linkLast_27 vC_11 in_J4 tyJ4_ok nmJ4 hc11 2 (by decide) q194 rfl rfl (rfl) (rfl) (Nat.le_of_ble_eq_true rfl) rfl (fun σ12 hc14 hu13 => ?_)
    have hc8 := at_put hu13 hc8 (cell_ne hc11 hc8 rfl)
    have hK := hK.put hu13 (Or.inl rfl)
    refine x_goto (tgt := 38) dJ4_linkLast_30 (by decide) ?_
    refine x_aload_n dJ4_linkLast_38 2 rfl rfl ?_
    refine x_dup dJ4_linkLast_39 rfl ?_
    refine x_get dJ4_linkLast_40 vC_11 in_J4 hc14 1 (by decide) q192 rfl ?_
    refine x_iconst (v := nI 1) dJ4_linkLast_43 (by decide) ?_
    refine x_iadd dJ4_linkLast_44 ?_
    refine x_top (x' := nI (0 + 1)) (nI_add _ _) ?_
    refine x_put (fs' := [.int mc, .int (nI (0 + 1)), .ref q, .ref q]) dJ4_linkLast_45 vC_11 in_J4 tyJ4_ok nmJ4 hc14 1 (by decide) q192 rfl rfl (rfl) (rfl) (Nat.le_of_ble_eq_true rfl) rfl (fun σ15 hc17 hu16 => ?_)
    have hc8 := at_put hu16 hc8 (cell_ne hc14 hc8 rfl)
    have hK := hK.put hu16 (Or.inl rfl)
    refine x_aload_n dJ4_linkLast_48 2 rfl rfl ?_
    refine x_dup dJ4_linkLast_49 rfl ?_
    refine x_getS (ref := "java/util/LinkedList") dJ4_linkLast_50 vC_11 in_J4 hc17 0 (by decide) q173 q169 rfl ?_
    refine x_iconst (v := nI 1) dJ4_linkLast_53 (by decide) ?_
    refine x_iadd dJ4_linkLast_54 ?_
    refine x_putS (ref := "java/util/LinkedList") (fs' := [.int (mc + (nI 1)), .int (nI (0 + 1)), .ref q, .ref q]) dJ4_linkLast_55 vC_11 in_J4 tyJ4_ok nmJ4 hc17 0 (by decide) q173 q169 rfl rfl (rfl) (rfl) (Nat.le_of_ble_eq_true rfl) rfl (fun σ18 hc20 hu19 => ?_)
    have hc8 := at_put hu19 hc8 (cell_ne hc17 hc8 rfl)
    have hK := hK.put hu19 (Or.inl rfl)
    refine x_vret dJ4_linkLast_58 rfl ⟨rfl, q, hn2, hL.ins (it := it) (Nat.le_refl _) hn2 hl hc20 hc8 (fun j x hx => by cases hx), Fr.ofKp hK (fun r hr => ?_)⟩
    rcases hr with rfl | rfl
    · exact wr_ok (Or.inl rfl) hp0 hc20 rfl
    · exact Or.inl hn2
  · obtain ⟨n, hn⟩ : ∃ n, ns.length = n + 1 := ⟨ns.length - 1, by omega⟩
    obtain ⟨z, hz⟩ : ∃ z, ns[n]? = some z := ⟨_, List.getElem?_eq_getElem (by omega)⟩
    have hpl : pv ns ns.length = some z.1 := by rw [hn]; exact nx_some hz
    have hp : σ p = some (.inr (11, [.int mc, .int (nI ns.length), va_rf (nx ns 0), .ref z.1])) := by have := hL.1; rw [hpl] at this; exact this
    have hzc : σ z.1 = some (.inr (12, [.ref z.2, .null, va_rf (pv ns n)])) := by have := hL.2.1 n z hz; rw [nx_none (by omega)] at this; exact this
    obtain ⟨zz, hzz⟩ : ∃ zz, zz = z.1 := ⟨_, rfl⟩
    rw [← hzz] at hp hzc
    have hp0 := hp
    have hz0 := hzc
    refine x_aload_n dJ4_linkLast_0 0 rfl rfl ?_
    refine x_get dJ4_linkLast_1 vC_11 in_J4 hp 3 (by decide) q195 rfl ?_
    refine x_astore_n (i := 2) (L' := [(2, .ref zz), (0, .ref p), (1, .ref it)]) dJ4_linkLast_4 rfl (by decide) rfl ?_
    refine x_new (fs := [.null, .null, .null]) dJ4_linkLast_5 vC_12 in_J26 tyJ26_ok q924 q925 q117 rfl (by omega) (by omega) (fun q σ21 hn22 hb23 hc24 hu25 => ?_)
    have n_p_q : p ≠ q := cell_nn hn22 hp
    have hp := ro_new hn22 hu25 _ _ hp
    have n_zz_q : zz ≠ q := cell_nn hn22 hzc
    have hzc := ro_new hn22 hu25 _ _ hzc
    have hK : Kp (fun r => r = p ∨ r = q ∨ r = zz) σ σ21 := fun r hr => hu25 r (fun z => hr (Or.inr (Or.inl z)))
    refine x_dup dJ4_linkLast_8 rfl ?_
    refine x_aload_n dJ4_linkLast_9 0 rfl rfl ?_
    refine x_aload_n dJ4_linkLast_10 2 rfl rfl ?_
    refine x_null dJ4_linkLast_11 ?_
    refine x_callI dJ4_linkLast_12 (con_J26_init_an hc24) (lw_meth q928) q117 q926 q927 rfl (np := 3) (by decide +kernel) rfl ⟨Nat.le_of_ble_eq_true rfl, Nat.le_of_ble_eq_true rfl⟩ (Nat.le_of_ble_eq_true rfl) rfl (Nat.zero_le _) (Nat.zero_le _) (rV fun σ26 h1 => ?_) nV'
    have hp := at_put h1.2 hp (cell_ne hc24 hp rfl)
    have hzc := at_put h1.2 hzc n_zz_q
    have hK := hK.put h1.2 (Or.inr (Or.inl rfl))
    have hc28 := h1.1
    refine x_astore_n (i := 3) (L' := [(3, .ref q), (2, .ref zz), (0, .ref p), (1, .ref it)]) dJ4_linkLast_15 rfl (by decide) rfl ?_
    refine x_aload_n dJ4_linkLast_16 2 rfl rfl ?_
    refine x_aload_n dJ4_linkLast_17 0 rfl rfl ?_
    refine x_put (fs' := [.int mc, .int (nI ns.length), va_rf (nx ns 0), .ref q]) dJ4_linkLast_18 vC_11 in_J4 tyJ4_ok nmJ4 hp 3 (by decide) q195 rfl rfl (rfl) (rfl) (Nat.le_of_ble_eq_true rfl) rfl (fun σ29 hc31 hu30 => ?_)
    have hzc := at_put hu30 hzc (cell_ne hp hzc rfl)
    have hc28 := at_put hu30 hc28 (cell_ne hp hc28 rfl)
    have hK := hK.put hu30 (Or.inl rfl)
    refine x_aload_n dJ4_linkLast_21 1 rfl rfl ?_
    refine x_ifnonnull (tgt := 33) dJ4_linkLast_22 (by decide) ?_
    refine x_aload_n dJ4_linkLast_33 1 rfl rfl ?_
    refine x_aload_n dJ4_linkLast_34 0 rfl rfl ?_
    refine x_put (fs' := [.ref z.2, .ref q, va_rf (pv ns n)]) dJ4_linkLast_35 vC_12 in_J26 tyJ26_ok nmJ26 hzc 1 (by decide) q935 rfl rfl (rfl) (rfl) (Nat.le_of_ble_eq_true rfl) rfl (fun σ32 hc34 hu33 => ?_)
    have hc31 := at_put hu33 hc31 (cell_ne hzc hc31 rfl)
    have hc28 := at_put hu33 hc28 (fun e => n_zz_q e.symm)
    have hK := hK.put hu33 (Or.inr (Or.inr rfl))
    refine x_aload_n dJ4_linkLast_38 2 rfl rfl ?_
    refine x_dup dJ4_linkLast_39 rfl ?_
    refine x_get dJ4_linkLast_40 vC_11 in_J4 hc31 1 (by decide) q192 rfl ?_
    refine x_iconst (v := nI 1) dJ4_linkLast_43 (by decide) ?_
    refine x_iadd dJ4_linkLast_44 ?_
    refine x_top (x' := nI (ns.length + 1)) (nI_add _ _) ?_
    refine x_put (fs' := [.int mc, .int (nI (ns.length + 1)), va_rf (nx ns 0), .ref q]) dJ4_linkLast_45 vC_11 in_J4 tyJ4_ok nmJ4 hc31 1 (by decide) q192 rfl rfl (rfl) (rfl) (Nat.le_of_ble_eq_true rfl) rfl (fun σ35 hc37 hu36 => ?_)
    have hc34 := at_put hu36 hc34 (cell_ne hc31 hc34 rfl)
    have hc28 := at_put hu36 hc28 (cell_ne hc31 hc28 rfl)
    have hK := hK.put hu36 (Or.inl rfl)
    refine x_aload_n dJ4_linkLast_48 2 rfl rfl ?_
    refine x_dup dJ4_linkLast_49 rfl ?_
    refine x_getS (ref := "java/util/LinkedList") dJ4_linkLast_50 vC_11 in_J4 hc37 0 (by decide) q173 q169 rfl ?_
    refine x_iconst (v := nI 1) dJ4_linkLast_53 (by decide) ?_
    refine x_iadd dJ4_linkLast_54 ?_
    refine x_putS (ref := "java/util/LinkedList") (fs' := [.int (mc + (nI 1)), .int (nI (ns.length + 1)), va_rf (nx ns 0), .ref q]) dJ4_linkLast_55 vC_11 in_J4 tyJ4_ok nmJ4 hc37 0 (by decide) q173 q169 rfl rfl (rfl) (rfl) (Nat.le_of_ble_eq_true rfl) rfl (fun σ38 hc40 hu39 => ?_)
    have hc34 := at_put hu39 hc34 (cell_ne hc37 hc34 rfl)
    have hc28 := at_put hu39 hc28 (cell_ne hc37 hc28 rfl)
    have hK := hK.put hu39 (Or.inl rfl)
    refine x_vret dJ4_linkLast_58 rfl ⟨rfl, q, hn22, hL.ins (it := it) (Nat.le_refl _) hn22 hl ?_ ?_ (fun j x hx => ?_), Fr.ofKp hK (fun r hr => ?_)⟩
    · rw [if_neg (show ¬ ns.length = 0 by omega), if_pos rfl]; exact hc40
    · rw [nx_none (Nat.le_refl _), hpl, ← hzz]; exact hc28
    · have hj := get_lt' hx
      rw [if_neg (show ¬ j = ns.length by omega)]
      by_cases e : j = n
      · subst e
        rw [hz] at hx
        cases hx
        rw [if_pos hn.symm, ← hzz]; exact hc34
      · rw [if_neg (show ¬ j + 1 = ns.length by omega), hK x.1 (fun w => ?_)]
        · exact hL.2.1 j x hx
        · rcases w with w | w | w
          · exact hL.pne hx w
          · exact hL.nn hx hn22 w
          · exact e (hL.inj hx hz (w.trans hzz))
    · rcases hr with rfl | rfl | rfl
      · exact wr_ok (Or.inl rfl) hp0 hc40 rfl
      · exact Or.inl hn22
      · exact wr_ok (hzz ▸ hL.mem hz) hz0 hc34 rfl
set_option maxHeartbeats 4000000 in
set_option maxRecDepth 100000 in
theorem con_J4_addLast {l : Launch} {G : YG} {σ : AH} {p : Nat} {mc : Int32} {ns : NL} {it : Nat} (hL : LL σ p mc ns) (hl : ns.length + 1 < 2 ^ 20) : Con l yJ4_addLast cJ4_addLast 2 none G 3 1 3 [.ref p, .ref it] σ (PV fun τ => ∃ q, σ q = none ∧ LL τ p (mc + 1) (ns ++ [(q, it)]) ∧ Fr (LW p ns) σ τ) := by
  refine con_of (by decide) (Nat.le_of_ble_eq_true rfl) ?_
  refine x_locs (L' := [(0, .ref p), (1, .ref it)]) [0, 1] rfl ?_
  refine x_aload_n dJ4_addLast_0 0 rfl rfl ?_
  refine x_aload_n dJ4_addLast_1 1 rfl rfl ?_
  refine x_callV dJ4_addLast_2 (con_J4_linkLast hL hl) (lw_V q920 q921 q922 q91 q923) (np := 1) (by decide +kernel) rfl hL.rc ⟨Nat.le_of_ble_eq_true rfl, Nat.le_of_ble_eq_true rfl⟩ (Nat.le_of_ble_eq_true rfl) rfl (Nat.le_refl _) (Nat.le_refl _) (rV fun σ1 h1 => ?_) nV'
  exact x_vret dJ4_addLast_5 rfl (⟨rfl, by obtain ⟨q, h2, h3, h4⟩ := h1; rw [List.take_length, List.drop_length] at h3; exact ⟨q, h2, h3, h4⟩⟩)
set_option maxHeartbeats 4000000 in
set_option maxRecDepth 100000 in
theorem con_J4_size {l : Launch} {G : YG} {σ : AH} {p : Nat} {mc : Int32} {ns : NL} (hL : LL σ p mc ns) : Con l yJ4_size cJ4_size 1 (some FieldType.int) G 0 0 0 [.ref p] σ (PS σ (nI ns.length)) := by
  refine con_of (by decide) (Nat.le_of_ble_eq_true rfl) ?_
  refine x_locs (L' := [(0, .ref p)]) [0] rfl ?_
  have hp := hL.1
  refine x_aload_n dJ4_size_0 0 rfl rfl ?_
  refine x_get dJ4_size_1 vC_11 in_J4 hp 1 (by decide) q192 rfl ?_
  exact x_iret dJ4_size_4 rfl (pS)
set_option maxHeartbeats 4000000 in
set_option maxRecDepth 100000 in
theorem con_J0_isEmpty {l : Launch} {G : YG} {σ : AH} {p : Nat} {mc : Int32} {ns : NL} (hL : LL σ p mc ns) : Con l yJ0_isEmpty cJ0_isEmpty 1 (some FieldType.boolean) G 1 0 0 [.ref p] σ (PS σ (bI ns.isEmpty)) := by
  refine con_of (by decide) (Nat.le_of_ble_eq_true rfl) ?_
  refine x_locs (L' := [(0, .ref p)]) [0] rfl ?_
  have hl := hL.len
  refine x_aload_n dJ0_isEmpty_0 0 rfl rfl ?_
  refine x_callA dJ0_isEmpty_1 (con_J4_size hL) (lw_U q1097 q2259 q2262 q531 q91 q532) q526 (np := 0) (by decide +kernel) rfl hL.rc ⟨Nat.le_of_ble_eq_true rfl, Nat.le_of_ble_eq_true rfl⟩ (Nat.le_of_ble_eq_true rfl) rfl (by decide) (by decide) (rS ?_) nI'
  refine x_if_ne (tgt := 11) dJ0_isEmpty_4 (by decide) (fun c1 => ?_) (fun c1 => ?_)
  · have c1 := nN0 c1
    have h1 : ns.isEmpty = false := by cases ns; exact absurd rfl c1; rfl
    refine x_iconst (v := nI 0) dJ0_isEmpty_11 (by decide) ?_
    exact x_zret dJ0_isEmpty_12 rfl (rfl) (pS' (by rw [h1]; rfl))
  · have c1 := n0 (by omega) c1
    have h1 : ns.isEmpty = true := by rw [List.eq_nil_of_length_eq_zero c1]; rfl
    refine x_iconst (v := nI 1) dJ0_isEmpty_7 (by decide) ?_
    refine x_goto (tgt := 12) dJ0_isEmpty_8 (by decide) ?_
    exact x_zret dJ0_isEmpty_12 rfl (rfl) (pS' (by rw [h1]; rfl))
set_option maxHeartbeats 4000000 in
set_option maxRecDepth 100000 in
theorem con_J4_getFirst {l : Launch} {G : YG} {σ : AH} {p : Nat} {mc : Int32} {ns : NL} {x : Nat × Nat} (hL : LL σ p mc ns) (hx : ns[0]? = some x) : Con l yJ4_getFirst cJ4_getFirst 2 (some (FieldType.object "java/lang/Object")) G 0 0 0 [.ref p] σ (PA fun z τ => z = x.2 ∧ τ = σ) := by
  refine con_of (by decide) (Nat.le_of_ble_eq_true rfl) ?_
  refine x_locs (L' := [(0, .ref p)]) [0] rfl ?_
  have hp := hL.1
  rw [nx_some hx] at hp
  have hz := hL.2.1 0 x hx
  refine x_aload_n dJ4_getFirst_0 0 rfl rfl ?_
  refine x_get dJ4_getFirst_1 vC_11 in_J4 hp 2 (by decide) q194 rfl ?_
  refine x_astore_n (i := 1) (L' := [(1, .ref x.1), (0, .ref p)]) dJ4_getFirst_4 rfl (by decide) rfl ?_
  refine x_aload_n dJ4_getFirst_5 0 rfl rfl ?_
  refine x_ifnonnull (tgt := 17) dJ4_getFirst_6 (by decide) ?_
  refine x_aload_n dJ4_getFirst_17 0 rfl rfl ?_
  refine x_get dJ4_getFirst_18 vC_12 in_J26 hz 0 (by decide) q932 rfl ?_
  exact x_aret dJ4_getFirst_21 rfl (by first | exact Or.inl ⟨_, rfl⟩ | exact Or.inr ⟨_, rfl⟩) (Or.inr ⟨_, rfl⟩) (⟨_, rfl, rfl, rfl⟩)
set_option maxHeartbeats 4000000 in
set_option maxRecDepth 100000 in
theorem con_J4_unlinkFirst {l : Launch} {G : YG} {σ : AH} {p : Nat} {mc : Int32} {ns : NL} {x : Nat × Nat} (hL : LL σ p mc ns) (hx : ns[0]? = some x) : Con l yJ4_unlinkFirst cJ4_unlinkFirst 4 (some (FieldType.object "java/lang/Object")) G 0 0 0 [.ref p, .ref x.1] σ (PA fun z τ => z = x.2 ∧ LL τ p (mc + 1) (ns.eraseIdx 0) ∧ Fr (LW p ns) σ τ) := by
  refine con_of (by decide) (Nat.le_of_ble_eq_true rfl) ?_
  refine x_locs (L' := [(0, .ref p), (1, .ref x.1)]) [0, 1] rfl ?_
  have hlen := hL.len
  have hlt := get_lt' hx
  obtain ⟨xx, hxx⟩ : ∃ xx, xx = x.1 := ⟨_, rfl⟩
  rw [← hxx]
  have hp := hL.1
  have hx1 := hL.2.1 0 x hx
  rw [← hxx] at hx1
  rw [nx_some hx, ← hxx] at hp
  have hp0 := hp
  have hx0 := hx1
  have hpv : pv ns 0 = none := rfl
  rcases Nat.eq_or_lt_of_le (show 1 ≤ ns.length by omega) with h0 | h0
  · rw [nx_none (show ns.length ≤ 0 + 1 by omega)] at hx1
    have hK : Kp (fun r => r = p ∨ r = xx) σ σ := Kp.rf
    refine x_aload_n dJ4_unlinkFirst_0 1 rfl rfl ?_
    refine x_get dJ4_unlinkFirst_1 vC_12 in_J26 hx1 0 (by decide) q932 rfl ?_
    refine x_astore_n (i := 2) (L' := [(2, .ref x.2), (0, .ref p), (1, .ref xx)]) dJ4_unlinkFirst_4 rfl (by decide) rfl ?_
    refine x_aload_n dJ4_unlinkFirst_5 2 rfl rfl ?_
    refine x_get dJ4_unlinkFirst_6 vC_12 in_J26 hx1 1 (by decide) q935 rfl ?_
    refine x_astore_nN (i := 3) (L' := [(3, .null), (2, .ref x.2), (0, .ref p), (1, .ref xx)]) dJ4_unlinkFirst_9 rfl (by decide) rfl ?_
    refine x_aload_n dJ4_unlinkFirst_10 3 rfl rfl ?_
    refine x_null dJ4_unlinkFirst_11 ?_
    refine x_put (fs' := [.null, .null, va_rf (pv ns 0)]) dJ4_unlinkFirst_12 vC_12 in_J26 tyJ26_ok nmJ26 hx1 0 (by decide) q932 rfl rfl (rfl) (rfl) (Nat.le_of_ble_eq_true rfl) rfl (fun σ1 hc3 hu2 => ?_)
    have hp := at_put hu2 hp (cell_ne hx1 hp rfl)
    have hK := hK.put hu2 (Or.inr rfl)
    refine x_aload_n dJ4_unlinkFirst_15 3 rfl rfl ?_
    refine x_null dJ4_unlinkFirst_16 ?_
    refine x_put (fs' := [.null, .null, va_rf (pv ns 0)]) dJ4_unlinkFirst_17 vC_12 in_J26 tyJ26_ok nmJ26 hc3 1 (by decide) q935 rfl rfl (rfl) (rfl) (Nat.le_of_ble_eq_true rfl) rfl (fun σ4 hc6 hu5 => ?_)
    have hp := at_put hu5 hp (cell_ne hc3 hp rfl)
    have hK := hK.put hu5 (Or.inr rfl)
    refine x_aload_n dJ4_unlinkFirst_20 2 rfl rfl ?_
    refine x_aload_nN dJ4_unlinkFirst_21 0 rfl rfl ?_
    refine x_put (fs' := [.int mc, .int (nI ns.length), .null, va_rf (pv ns ns.length)]) dJ4_unlinkFirst_22 vC_11 in_J4 tyJ4_ok nmJ4 hp 2 (by decide) q194 rfl rfl (rfl) (rfl) (Nat.le_of_ble_eq_true rfl) rfl (fun σ7 hc9 hu8 => ?_)
    have hc6 := at_put hu8 hc6 (cell_ne hp hc6 rfl)
    have hK := hK.put hu8 (Or.inl rfl)
    refine x_aload_nN dJ4_unlinkFirst_25 0 rfl rfl ?_
    refine x_ifnonnullN dJ4_unlinkFirst_26 ?_
    refine x_aload_n dJ4_unlinkFirst_29 2 rfl rfl ?_
    refine x_null dJ4_unlinkFirst_30 ?_
    refine x_put (fs' := [.int mc, .int (nI ns.length), .null, .null]) dJ4_unlinkFirst_31 vC_11 in_J4 tyJ4_ok nmJ4 hc9 3 (by decide) q195 rfl rfl (rfl) (rfl) (Nat.le_of_ble_eq_true rfl) rfl (fun σ10 hc12 hu11 => ?_)
    have hc6 := at_put hu11 hc6 (cell_ne hc9 hc6 rfl)
    have hK := hK.put hu11 (Or.inl rfl)
    refine x_goto (tgt := 42) dJ4_unlinkFirst_34 (by decide) ?_
    refine x_aload_n dJ4_unlinkFirst_42 2 rfl rfl ?_
    refine x_dup dJ4_unlinkFirst_43 rfl ?_
    refine x_get dJ4_unlinkFirst_44 vC_11 in_J4 hc12 1 (by decide) q192 rfl ?_
    refine x_iconst (v := nI 1) dJ4_unlinkFirst_47 (by decide) ?_
    refine x_isub dJ4_unlinkFirst_48 ?_
    refine x_top (x' := nI (ns.length - 1)) (nI_sub (by omega)) ?_
    refine x_put (fs' := [.int mc, .int (nI (ns.length - 1)), .null, .null]) dJ4_unlinkFirst_49 vC_11 in_J4 tyJ4_ok nmJ4 hc12 1 (by decide) q192 rfl rfl (rfl) (rfl) (Nat.le_of_ble_eq_true rfl) rfl (fun σ13 hc15 hu14 => ?_)
    have hc6 := at_put hu14 hc6 (cell_ne hc12 hc6 rfl)
    have hK := hK.put hu14 (Or.inl rfl)
    refine x_aload_n dJ4_unlinkFirst_52 2 rfl rfl ?_
    refine x_dup dJ4_unlinkFirst_53 rfl ?_
    refine x_getS (ref := "java/util/LinkedList") dJ4_unlinkFirst_54 vC_11 in_J4 hc15 0 (by decide) q173 q169 rfl ?_
    refine x_iconst (v := nI 1) dJ4_unlinkFirst_57 (by decide) ?_
    refine x_iadd dJ4_unlinkFirst_58 ?_
    refine x_putS (ref := "java/util/LinkedList") (fs' := [.int (mc + (nI 1)), .int (nI (ns.length - 1)), .null, .null]) dJ4_unlinkFirst_59 vC_11 in_J4 tyJ4_ok nmJ4 hc15 0 (by decide) q173 q169 rfl rfl (rfl) (rfl) (Nat.le_of_ble_eq_true rfl) rfl (fun σ16 hc18 hu17 => ?_)
    have hc6 := at_put hu17 hc6 (cell_ne hc15 hc6 rfl)
    have hK := hK.put hu17 (Or.inl rfl)
    refine x_aload_n dJ4_unlinkFirst_62 1 rfl rfl ?_
    refine x_aret dJ4_unlinkFirst_63 rfl (by first | exact Or.inl ⟨_, rfl⟩ | exact Or.inr ⟨_, rfl⟩) (Or.inr ⟨_, rfl⟩) ⟨_, rfl, rfl, hL.era (i := 0) (by omega) ?_ (fun j z hj hz => ?_), Fr.ofKp hK (fun r hr => ?_)⟩
    · rw [if_pos rfl, if_pos (by omega), nx_none (by omega), hpv]; exact hc18
    · have := get_lt' hz; omega
    · rcases hr with rfl | rfl
      · exact wr_ok (Or.inl rfl) hp0 hc18 rfl
      · exact wr_ok (hxx ▸ hL.mem hx) hx0 hc6 rfl
  · obtain ⟨y, hy⟩ : ∃ y, ns[1]? = some y := ⟨_, List.getElem?_eq_getElem h0⟩
    obtain ⟨yy, hyy⟩ : ∃ yy, yy = y.1 := ⟨_, rfl⟩
    have hy1 := hL.2.1 1 y hy
    rw [← hyy] at hy1
    rw [nx_some hy, ← hyy] at hx1
    have hxy : xx ≠ yy := fun e => by have := hL.inj hx hy (by rw [← hxx, ← hyy]; exact e); omega
    have hy0 := hy1
    have hK : Kp (fun r => r = p ∨ r = xx ∨ r = yy) σ σ := Kp.rf
    refine x_aload_n dJ4_unlinkFirst_0 1 rfl rfl ?_
    refine x_get dJ4_unlinkFirst_1 vC_12 in_J26 hx1 0 (by decide) q932 rfl ?_
    refine x_astore_n (i := 2) (L' := [(2, .ref x.2), (0, .ref p), (1, .ref xx)]) dJ4_unlinkFirst_4 rfl (by decide) rfl ?_
    refine x_aload_n dJ4_unlinkFirst_5 2 rfl rfl ?_
    refine x_get dJ4_unlinkFirst_6 vC_12 in_J26 hx1 1 (by decide) q935 rfl ?_
    refine x_astore_n (i := 3) (L' := [(3, .ref yy), (2, .ref x.2), (0, .ref p), (1, .ref xx)]) dJ4_unlinkFirst_9 rfl (by decide) rfl ?_
    refine x_aload_n dJ4_unlinkFirst_10 3 rfl rfl ?_
    refine x_null dJ4_unlinkFirst_11 ?_
    refine x_put (fs' := [.null, .ref yy, va_rf (pv ns 0)]) dJ4_unlinkFirst_12 vC_12 in_J26 tyJ26_ok nmJ26 hx1 0 (by decide) q932 rfl rfl (rfl) (rfl) (Nat.le_of_ble_eq_true rfl) rfl (fun σ19 hc21 hu20 => ?_)
    have hp := at_put hu20 hp (cell_ne hx1 hp rfl)
    have hy1 := at_put hu20 hy1 (fun e => hxy e.symm)
    have hK := hK.put hu20 (Or.inr (Or.inl rfl))
    refine x_aload_n dJ4_unlinkFirst_15 3 rfl rfl ?_
    refine x_null dJ4_unlinkFirst_16 ?_
    refine x_put (fs' := [.null, .null, va_rf (pv ns 0)]) dJ4_unlinkFirst_17 vC_12 in_J26 tyJ26_ok nmJ26 hc21 1 (by decide) q935 rfl rfl (rfl) (rfl) (Nat.le_of_ble_eq_true rfl) rfl (fun σ22 hc24 hu23 => ?_)
    have hp := at_put hu23 hp (cell_ne hc21 hp rfl)
    have hy1 := at_put hu23 hy1 (fun e => hxy e.symm)
    have hK := hK.put hu23 (Or.inr (Or.inl rfl))
    refine x_aload_n dJ4_unlinkFirst_20 2 rfl rfl ?_
    refine x_aload_n dJ4_unlinkFirst_21 0 rfl rfl ?_
    refine x_put (fs' := [.int mc, .int (nI ns.length), .ref yy, va_rf (pv ns ns.length)]) dJ4_unlinkFirst_22 vC_11 in_J4 tyJ4_ok nmJ4 hp 2 (by decide) q194 rfl rfl (rfl) (rfl) (Nat.le_of_ble_eq_true rfl) rfl (fun σ25 hc27 hu26 => ?_)
    have hc24 := at_put hu26 hc24 (cell_ne hp hc24 rfl)
    have hy1 := at_put hu26 hy1 (cell_ne hp hy1 rfl)
    have hK := hK.put hu26 (Or.inl rfl)
    refine x_aload_n dJ4_unlinkFirst_25 0 rfl rfl ?_
    refine x_ifnonnull (tgt := 37) dJ4_unlinkFirst_26 (by decide) ?_
    refine x_aload_n dJ4_unlinkFirst_37 0 rfl rfl ?_
    refine x_null dJ4_unlinkFirst_38 ?_
    refine x_put (fs' := [.ref y.2, va_rf (nx ns (1 + 1)), .null]) dJ4_unlinkFirst_39 vC_12 in_J26 tyJ26_ok nmJ26 hy1 2 (by decide) q937 rfl rfl (rfl) (rfl) (Nat.le_of_ble_eq_true rfl) rfl (fun σ28 hc30 hu29 => ?_)
    have hc27 := at_put hu29 hc27 (cell_ne hy1 hc27 rfl)
    have hc24 := at_put hu29 hc24 hxy
    have hK := hK.put hu29 (Or.inr (Or.inr rfl))
    refine x_aload_n dJ4_unlinkFirst_42 2 rfl rfl ?_
    refine x_dup dJ4_unlinkFirst_43 rfl ?_
    refine x_get dJ4_unlinkFirst_44 vC_11 in_J4 hc27 1 (by decide) q192 rfl ?_
    refine x_iconst (v := nI 1) dJ4_unlinkFirst_47 (by decide) ?_
    refine x_isub dJ4_unlinkFirst_48 ?_
    refine x_top (x' := nI (ns.length - 1)) (nI_sub (by omega)) ?_
    refine x_put (fs' := [.int mc, .int (nI (ns.length - 1)), .ref yy, va_rf (pv ns ns.length)]) dJ4_unlinkFirst_49 vC_11 in_J4 tyJ4_ok nmJ4 hc27 1 (by decide) q192 rfl rfl (rfl) (rfl) (Nat.le_of_ble_eq_true rfl) rfl (fun σ31 hc33 hu32 => ?_)
    have hc24 := at_put hu32 hc24 (cell_ne hc27 hc24 rfl)
    have hc30 := at_put hu32 hc30 (cell_ne hc27 hc30 rfl)
    have hK := hK.put hu32 (Or.inl rfl)
    refine x_aload_n dJ4_unlinkFirst_52 2 rfl rfl ?_
    refine x_dup dJ4_unlinkFirst_53 rfl ?_
    refine x_getS (ref := "java/util/LinkedList") dJ4_unlinkFirst_54 vC_11 in_J4 hc33 0 (by decide) q173 q169 rfl ?_
    refine x_iconst (v := nI 1) dJ4_unlinkFirst_57 (by decide) ?_
    refine x_iadd dJ4_unlinkFirst_58 ?_
    refine x_putS (ref := "java/util/LinkedList") (fs' := [.int (mc + (nI 1)), .int (nI (ns.length - 1)), .ref yy, va_rf (pv ns ns.length)]) dJ4_unlinkFirst_59 vC_11 in_J4 tyJ4_ok nmJ4 hc33 0 (by decide) q173 q169 rfl rfl (rfl) (rfl) (Nat.le_of_ble_eq_true rfl) rfl (fun σ34 hc36 hu35 => ?_)
    have hc24 := at_put hu35 hc24 (cell_ne hc33 hc24 rfl)
    have hc30 := at_put hu35 hc30 (cell_ne hc33 hc30 rfl)
    have hK := hK.put hu35 (Or.inl rfl)
    refine x_aload_n dJ4_unlinkFirst_62 1 rfl rfl ?_
    refine x_aret dJ4_unlinkFirst_63 rfl (by first | exact Or.inl ⟨_, rfl⟩ | exact Or.inr ⟨_, rfl⟩) (Or.inr ⟨_, rfl⟩) ⟨_, rfl, rfl, hL.era (i := 0) (by omega) ?_ (fun j z hj hz => ?_), Fr.ofKp hK (fun r hr => ?_)⟩
    · rw [if_pos rfl, if_neg (by omega), nx_some hy, ← hyy]; exact hc36
    · have := get_lt' hz
      rw [if_neg (show ¬ j + 1 = 0 by omega)]
      by_cases e : j = 1
      · subst e
        rw [hy] at hz
        cases hz
        rw [if_pos rfl, hpv, ← hyy]; exact hc30
      · rw [if_neg (show ¬ j = 0 + 1 by omega), hK z.1 (fun w => ?_)]
        · exact hL.2.1 j z hz
        · rcases w with w | w | w
          · exact hL.pne hz w
          · exact hj (hL.inj hz hx (w.trans hxx))
          · exact e (hL.inj hz hy (w.trans hyy))
    · rcases hr with rfl | rfl | rfl
      · exact wr_ok (Or.inl rfl) hp0 hc36 rfl
      · exact wr_ok (hxx ▸ hL.mem hx) hx0 hc24 rfl
      · exact wr_ok (hyy ▸ hL.mem hy) hy0 hc30 rfl
set_option maxHeartbeats 4000000 in
set_option maxRecDepth 100000 in
theorem con_J4_removeFirst {l : Launch} {G : YG} {σ : AH} {p : Nat} {mc : Int32} {ns : NL} {x : Nat × Nat} (hL : LL σ p mc ns) (hx : ns[0]? = some x) : Con l yJ4_removeFirst cJ4_removeFirst 2 (some (FieldType.object "java/lang/Object")) G 1 0 0 [.ref p] σ (PA fun z τ => z = x.2 ∧ LL τ p (mc + 1) (ns.eraseIdx 0) ∧ Fr (LW p ns) σ τ) := by
  refine con_of (by decide) (Nat.le_of_ble_eq_true rfl) ?_
  refine x_locs (L' := [(0, .ref p)]) [0] rfl ?_
  have hp := hL.1
  rw [nx_some hx] at hp
  refine x_aload_n dJ4_removeFirst_0 0 rfl rfl ?_
  refine x_get dJ4_removeFirst_1 vC_11 in_J4 hp 2 (by decide) q194 rfl ?_
  refine x_astore_n (i := 1) (L' := [(1, .ref x.1), (0, .ref p)]) dJ4_removeFirst_4 rfl (by decide) rfl ?_
  refine x_aload_n dJ4_removeFirst_5 0 rfl rfl ?_
  refine x_ifnonnull (tgt := 17) dJ4_removeFirst_6 (by decide) ?_
  refine x_aload_n dJ4_removeFirst_17 1 rfl rfl ?_
  refine x_aload_n dJ4_removeFirst_18 0 rfl rfl ?_
  refine x_callV dJ4_removeFirst_19 (con_J4_unlinkFirst hL hx) (lw_V q1351 q1353 qs26 q91 q1354) (np := 1) (by decide +kernel) rfl hL.rc ⟨Nat.le_of_ble_eq_true rfl, Nat.le_of_ble_eq_true rfl⟩ (Nat.le_of_ble_eq_true rfl) rfl (by decide) (by decide) (rA fun z σ1 h1 => ?_) nA'
  exact x_aret dJ4_removeFirst_22 rfl (by first | exact Or.inl ⟨_, rfl⟩ | exact Or.inr ⟨_, rfl⟩) (Or.inr ⟨_, rfl⟩) (⟨_, rfl, h1⟩)
