set_option maxRecDepth 100000
-- ===== rows of eight =====
def AL (σ : AH) (p el : Nat) (mc : Int32) (ys : List Nat) : Prop := σ p = some (.inr (10, [.int mc, .ref el, .int (nI ys.length)])) ∧ (∃ f : Nat → Option Nat, σ el = some (.inl (5, 8, .inr (.inr (.inr (.inr f))))) ∧ ∀ i x, ys[i]? = some x → f i = some x) ∧ ys.length ≤ 8
theorem AL.ro {σ τ : AH} {p el : Nat} {mc : Int32} {ys : List Nat} (h : AL σ p el mc ys) (hr : RO σ τ) : AL τ p el mc ys := ⟨hr _ _ h.1, by obtain ⟨f, h1, h2⟩ := h.2.1; exact ⟨f, hr _ _ h1, h2⟩, h.2.2⟩
theorem AL.rc {G : YG} {σ : AH} {p el : Nat} {mc : Int32} {ys : List Nat} (h : AL σ p el mc ys) : rcv G σ "java/util/ArrayList" p := rcv_of vC_10 h.1
set_option maxHeartbeats 4000000 in
set_option maxRecDepth 100000 in
theorem con_J13_checkIndex {l : Launch} {G : YG} {σ : AH} {i n : Nat} (h : i < n) (hn : n < 2 ^ 31) : Con l yJ13_checkIndex cJ13_checkIndex 2 (some FieldType.int) G 1 0 0 [.int (nI i), .int (nI n)] σ (PS σ (nI i)) := by
  refine con_of (by decide) (Nat.le_of_ble_eq_true rfl) ?_
  refine x_locs (L' := [(0, .int (nI i)), (1, .int (nI n))]) [0, 1] rfl ?_
  refine x_iload_n dJ13_checkIndex_0 0 rfl rfl ?_
  refine x_iload_n dJ13_checkIndex_1 1 rfl rfl ?_
  refine x_null dJ13_checkIndex_2 ?_
  refine x_callS dJ13_checkIndex_3 (con_J14_checkIndexN h hn) (lw_S q414 q415 q103 q416) (np := 3) (by decide +kernel) rfl ⟨Nat.le_of_ble_eq_true rfl, Nat.le_of_ble_eq_true rfl⟩ (Nat.le_of_ble_eq_true rfl) rfl (by decide) (by decide) (rS ?_) nI'
  exact x_iret dJ13_checkIndex_6 rfl (pS' (by rfl))
set_option maxHeartbeats 4000000 in
set_option maxRecDepth 100000 in
theorem con_J1_initA {l : Launch} {G : YG} {σ : AH} {p : Nat} (hp : σ p = some (.inr (10, [.int 0, .null, .int 0]))) : Con l yJ1_init cJ1_init 1 none G 2 0 0 [.ref p] σ (PV fun τ => τ p = some (.inr (10, [.int 0, .null, .int 0])) ∧ ∀ r, r ≠ p → τ r = σ r) := by
  refine con_of (by decide) (Nat.le_of_ble_eq_true rfl) ?_
  refine x_locs (L' := [(0, .ref p)]) [0] rfl ?_
  refine x_aload_n dJ1_init_0 0 rfl rfl ?_
  refine x_callI dJ1_init_1 (con_J0_init) (lw_meth q157) q87 q155 q156 rfl (np := 0) (by decide +kernel) rfl ⟨Nat.le_of_ble_eq_true rfl, Nat.le_of_ble_eq_true rfl⟩ (Nat.le_of_ble_eq_true rfl) rfl (by decide) (by decide) (rV fun σ1 h0 => ?_) nV'
  subst h0
  refine x_aload_n dJ1_init_4 0 rfl rfl ?_
  refine x_iconst (v := nI 0) dJ1_init_5 (by decide) ?_
  refine x_put (fs' := [.int (nI 0), .null, .int 0]) dJ1_init_6 vC_10 in_J2 tyJ2_ok nmJ2 hp 0 (by decide) q167 rfl rfl (rfl) (rfl) (Nat.le_of_ble_eq_true rfl) rfl (fun σ3 hc5 hu4 => ?_)
  exact x_vret dJ1_init_9 rfl (⟨rfl, hc5, hu4⟩)
set_option maxHeartbeats 4000000 in
set_option maxRecDepth 100000 in
theorem con_J2_init {l : Launch} {G : YG} {σ : AH} {p : Nat} (hp : σ p = some (.inr (10, [.int 0, .null, .int 0]))) : Con l yJ2_init cJ2_init 2 none G 3 1 8 [.ref p, .int (nI 8)] σ (PV fun τ => ∃ el, σ el = none ∧ AL τ p el 0 [] ∧ ∀ r, σ r ≠ none → r ≠ p → τ r = σ r) := by
  refine con_of (by decide) (Nat.le_of_ble_eq_true rfl) ?_
  refine x_locs (L' := [(0, .ref p), (1, .int (nI 8))]) [0, 1] rfl ?_
  refine x_aload_n dJ2_init_0 0 rfl rfl ?_
  refine x_callI dJ2_init_1 (con_J1_initA hp) (lw_meth q154) q88 q152 q153 rfl (np := 0) (by decide +kernel) rfl ⟨Nat.le_of_ble_eq_true rfl, Nat.le_of_ble_eq_true rfl⟩ (Nat.le_of_ble_eq_true rfl) rfl (Nat.zero_le _) (Nat.zero_le _) (rV fun σ1 h0 => ?_) nV'
  refine x_iload_n dJ2_init_4 1 rfl rfl ?_
  refine x_if_le (tgt := 19) dJ2_init_5 (by decide) (fun h_ => absurd h_ (by decide)) (fun _ => ?_)
  refine x_aload_n dJ2_init_8 0 rfl rfl ?_
  refine x_iload_n dJ2_init_9 1 rfl rfl ?_
  have hp1 := h0.1
  refine x_newq5 (N := 8) dJ2_init_10 q159 q160 rfl (by decide) (Nat.le_of_ble_eq_true rfl) (Nat.le_of_ble_eq_true rfl) (fun el σ3 hn hb hc hu => ?_)
  have hp1 := ro_new hn hu _ _ hp1
  have hnp : p ≠ el := fun e => by rw [e] at hp1 h0; rw [hn] at h0; cases h0.1
  refine x_put (fs' := [.int 0, .ref el, .int 0]) dJ2_init_13 vC_10 in_J2 tyJ2_ok nmJ2 hp1 1 (by decide) q163 rfl rfl (rfl) (rfl) (Nat.le_of_ble_eq_true rfl) rfl (fun σ4 hc6 hu5 => ?_)
  have hc := at_put hu5 hc (cell_ne hp1 hc rfl)
  refine x_goto (tgt := 60) dJ2_init_16 (by decide) ?_
  exact x_vret dJ2_init_60 rfl ⟨rfl, el, by rw [← h0.2 el (fun e => hnp e.symm)]; exact hn, ⟨hc6, ⟨_, hc, fun i x hx => by cases hx⟩, Nat.zero_le _⟩, fun r hr hrp => (hu5 r hrp).trans ((hu r (fun e => by subst e; rw [h0.2 _ hrp] at hn; exact hr hn)).trans (h0.2 r hrp))⟩
set_option maxHeartbeats 4000000 in
set_option maxRecDepth 100000 in
theorem con_J2_add_2 {l : Launch} {G : YG} {σ : AH} {p el : Nat} {mc : Int32} {ys : List Nat} {x : Nat} {fs : List Value} (hA : AL σ p el mc ys) (hx : σ x = some (.inr (11, fs))) (hl : ys.length < 8) : Con l yJ2_add_2 cJ2_add_2 4 none G 0 0 0 [.ref p, .ref x, .ref el, .int (nI ys.length)] σ (PV fun τ => AL τ p el mc (ys ++ [x]) ∧ ∀ r, r ≠ p → r ≠ el → τ r = σ r) := by
  refine con_of (by decide) (Nat.le_of_ble_eq_true rfl) ?_
  refine x_locs (L' := [(0, .ref p), (1, .ref x), (2, .ref el), (3, .int (nI ys.length))]) [0, 1, 2, 3] rfl ?_
  obtain ⟨hp, ⟨f, hel, hf⟩, hl8⟩ := hA
  have hpe : p ≠ el := fun e => by rw [e, hel] at hp; cases hp
  refine x_iload_n dJ2_add_2_0 3 rfl rfl ?_
  refine x_aload_n dJ2_add_2_1 2 rfl rfl ?_
  refine x_alen (N := 0) (q0 := 5) (v := nI 8) dJ2_add_2_2 hel rfl rfl ?_
  refine x_icmp_ne (tgt := 11) dJ2_add_2_3 (by decide) (fun _ => ?_) (fun h_ => absurd h_ (fun h => absurd (nEq (by omega) (by omega) h) (by omega)))
  refine x_aload_n dJ2_add_2_11 2 rfl rfl ?_
  refine x_iload_n dJ2_add_2_12 3 rfl rfl ?_
  refine x_aload_n dJ2_add_2_13 1 rfl rfl ?_
  refine x_aast5 (N := 8) (j := ys.length) dJ2_add_2_14 hel hx vC_11 q2276 rfl hl (by decide) (fun σ8 g8 f8 => ?_)
  have hp := at_put f8 hp hpe
  refine x_aload_n dJ2_add_2_15 0 rfl rfl ?_
  refine x_iload_n dJ2_add_2_16 3 rfl rfl ?_
  refine x_iconst (v := nI 1) dJ2_add_2_17 (by decide) ?_
  refine x_iadd dJ2_add_2_18 ?_
  refine x_top (x' := nI (ys.length + 1)) (nI_add _ _) ?_
  refine x_put (fs' := [.int mc, .ref el, .int (nI (ys.length + 1))]) dJ2_add_2_19 vC_10 in_J2 tyJ2_ok nmJ2 hp 2 (by decide) q166 rfl rfl (rfl) (rfl) (Nat.le_of_ble_eq_true rfl) rfl (fun σ1 hc3 hu2 => ?_)
  refine x_vret dJ2_add_2_22 rfl ⟨rfl, ⟨by rw [List.length_append]; exact hc3, ⟨_, at_put hu2 g8 (fun e => hpe e.symm), fun i y hy => ?_⟩, by rw [List.length_append]; exact hl⟩, fun r h1 h2 => (hu2 r h1).trans (f8 r h2)⟩
  rw [List.getElem?_append] at hy
  unfold va_up
  split at hy
  · rename_i h
    rw [if_neg (by omega)]; exact hf i y hy
  · rename_i h
    have hil := (List.getElem?_eq_some_iff.mp hy).1
    have hie : i = ys.length := by simp at hil; omega
    subst hie
    rw [Nat.sub_self] at hy
    cases hy
    rw [if_pos rfl]
set_option maxHeartbeats 4000000 in
set_option maxRecDepth 100000 in
theorem con_J2_add {l : Launch} {G : YG} {σ : AH} {p el : Nat} {mc : Int32} {ys : List Nat} {x : Nat} {fs : List Value} (hA : AL σ p el mc ys) (hx : σ x = some (.inr (11, fs))) (hl : ys.length < 8) : Con l yJ2_add cJ2_add 2 (some FieldType.boolean) G 1 0 0 [.ref p, .ref x] σ (PI fun z τ => z = 1 ∧ AL τ p el (mc + 1) (ys ++ [x]) ∧ ∀ r, r ≠ p → r ≠ el → τ r = σ r) := by
  refine con_of (by decide) (Nat.le_of_ble_eq_true rfl) ?_
  refine x_locs (L' := [(0, .ref p), (1, .ref x)]) [0, 1] rfl ?_
  have hA0 := hA
  obtain ⟨hp, ⟨f, hel, hf⟩, hl8⟩ := hA
  have hpe : p ≠ el := fun e => by rw [e, hel] at hp; cases hp
  have hxp : x ≠ p := fun e => by rw [e, hp] at hx; cases hx
  refine x_aload_n dJ2_add_0 0 rfl rfl ?_
  refine x_dup dJ2_add_1 rfl ?_
  refine x_getS (ref := "java/util/ArrayList") dJ2_add_2 vC_10 in_J2 hp 0 (by decide) q174 q171 rfl ?_
  refine x_iconst (v := nI 1) dJ2_add_5 (by decide) ?_
  refine x_iadd dJ2_add_6 ?_
  refine x_putS (ref := "java/util/ArrayList") (fs' := [.int (mc + (nI 1)), .ref el, .int (nI ys.length)]) dJ2_add_7 vC_10 in_J2 tyJ2_ok nmJ2 hp 0 (by decide) q174 q171 rfl rfl (rfl) (rfl) (Nat.le_of_ble_eq_true rfl) rfl (fun σ1 hc3 hu2 => ?_)
  refine x_aload_n dJ2_add_10 0 rfl rfl ?_
  refine x_aload_n dJ2_add_11 1 rfl rfl ?_
  refine x_aload_n dJ2_add_12 0 rfl rfl ?_
  refine x_get dJ2_add_13 vC_10 in_J2 hc3 1 (by decide) q163 rfl ?_
  refine x_aload_n dJ2_add_16 0 rfl rfl ?_
  refine x_get dJ2_add_17 vC_10 in_J2 hc3 2 (by decide) q166 rfl ?_
  have hA2 : AL σ1 p el (mc + nI 1) ys := ⟨hc3, ⟨f, at_put hu2 hel (fun e => hpe e.symm), hf⟩, hl8⟩
  refine x_callV dJ2_add_20 (con_J2_add_2 hA2 (at_put hu2 hx hxp) hl) (lw_V q209 q211 qs0 q89 q212) (np := 3) (by decide +kernel) rfl hA2.rc ⟨Nat.le_of_ble_eq_true rfl, Nat.le_of_ble_eq_true rfl⟩ (Nat.le_of_ble_eq_true rfl) rfl (by decide) (by decide) (rV fun σ4 h2 => ?_) nV'
  refine x_iconst (v := nI 1) dJ2_add_23 (by decide) ?_
  exact x_zret dJ2_add_24 rfl (rfl) (⟨_, rfl, rfl, h2.1, fun r a b => (h2.2 r a b).trans (hu2 r a)⟩)
set_option maxHeartbeats 4000000 in
set_option maxRecDepth 100000 in
theorem con_J2_elementData {l : Launch} {G : YG} {σ : AH} {p el : Nat} {mc : Int32} {ys : List Nat} {i x : Nat} (hA : AL σ p el mc ys) (hx : ys[i]? = some x) : Con l yJ2_elementData cJ2_elementData 2 (some (FieldType.object "java/lang/Object")) G 0 0 0 [.ref p, .int (nI i)] σ (PA fun z τ => z = x ∧ τ = σ) := by
  refine con_of (by decide) (Nat.le_of_ble_eq_true rfl) ?_
  refine x_locs (L' := [(0, .ref p), (1, .int (nI i))]) [0, 1] rfl ?_
  obtain ⟨hp, ⟨f, hel, hf⟩, hl8⟩ := hA
  have hlt := get_lt' hx
  refine x_aload_n dJ2_elementData_0 0 rfl rfl ?_
  refine x_get dJ2_elementData_1 vC_10 in_J2 hp 1 (by decide) q163 rfl ?_
  refine x_iload_n dJ2_elementData_4 1 rfl rfl ?_
  refine x_aald5 (N := 8) (j := i) dJ2_elementData_5 hel rfl (by omega) (by decide) (hf i x hx) ?_
  exact x_aret dJ2_elementData_6 rfl (by first | exact Or.inl ⟨_, rfl⟩ | exact Or.inr ⟨_, rfl⟩) (Or.inr ⟨_, rfl⟩) (⟨_, rfl, rfl, rfl⟩)
set_option maxHeartbeats 4000000 in
set_option maxRecDepth 100000 in
theorem con_J2_get {l : Launch} {G : YG} {σ : AH} {p el : Nat} {mc : Int32} {ys : List Nat} {i x : Nat} (hA : AL σ p el mc ys) (hx : ys[i]? = some x) : Con l yJ2_get cJ2_get 2 (some (FieldType.object "java/lang/Object")) G 2 0 0 [.ref p, .int (nI i)] σ (PA fun z τ => z = x ∧ τ = σ) := by
  refine con_of (by decide) (Nat.le_of_ble_eq_true rfl) ?_
  refine x_locs (L' := [(0, .ref p), (1, .int (nI i))]) [0, 1] rfl ?_
  have hp := hA.1
  have hl8 := hA.2.2
  have hlt := get_lt' hx
  refine x_iload_n dJ2_get_0 1 rfl rfl ?_
  refine x_aload_n dJ2_get_1 0 rfl rfl ?_
  refine x_get dJ2_get_2 vC_10 in_J2 hp 2 (by decide) q166 rfl ?_
  refine x_callS dJ2_get_5 (con_J13_checkIndex hlt (by omega)) (lw_S q411 q412 q102 q413) (np := 2) (by decide +kernel) rfl ⟨Nat.le_of_ble_eq_true rfl, Nat.le_of_ble_eq_true rfl⟩ (Nat.le_of_ble_eq_true rfl) rfl (by decide) (by decide) (rS ?_) nI'
  refine x_pop dJ2_get_8 rfl ?_
  refine x_aload_n dJ2_get_9 0 rfl rfl ?_
  refine x_iload_n dJ2_get_10 1 rfl rfl ?_
  refine x_callV dJ2_get_11 (con_J2_elementData hA hx) (lw_V q417 q418 q419 q89 q420) (np := 1) (by decide +kernel) rfl hA.rc ⟨Nat.le_of_ble_eq_true rfl, Nat.le_of_ble_eq_true rfl⟩ (Nat.le_of_ble_eq_true rfl) rfl (by decide) (by decide) (rA fun z σ2 h1 => ?_) nA'
  exact x_aret dJ2_get_14 rfl (by first | exact Or.inl ⟨_, rfl⟩ | exact Or.inr ⟨_, rfl⟩) (Or.inr ⟨_, rfl⟩) (⟨_, rfl, h1⟩)
set_option maxHeartbeats 4000000 in
set_option maxRecDepth 100000 in
theorem con_J2_size {l : Launch} {G : YG} {σ : AH} {p el : Nat} {mc : Int32} {ys : List Nat} (hA : AL σ p el mc ys) : Con l yJ2_size cJ2_size 1 (some FieldType.int) G 0 0 0 [.ref p] σ (PS σ (nI ys.length)) := by
  refine con_of (by decide) (Nat.le_of_ble_eq_true rfl) ?_
  refine x_locs (L' := [(0, .ref p)]) [0] rfl ?_
  have hp := hA.1
  refine x_aload_n dJ2_size_0 0 rfl rfl ?_
  refine x_get dJ2_size_1 vC_10 in_J2 hp 2 (by decide) q166 rfl ?_
  exact x_iret dJ2_size_4 rfl (pS)
def QI (σ : AH) (z p : Nat) (mc : Int32) (j : Nat) : Prop := ∃ lr : Int32, σ z = some (.inr (14, [.int (nI j), .int lr, .int mc, .ref p]))
theorem QI.ro {σ τ : AH} {z p : Nat} {mc : Int32} {j : Nat} (h : QI σ z p mc j) (hr : RO σ τ) : QI τ z p mc j := by obtain ⟨lr, h⟩ := h; exact ⟨lr, hr _ _ h⟩
theorem QI.rc {G : YG} {σ : AH} {z p : Nat} {mc : Int32} {j : Nat} (h : QI σ z p mc j) : rcv G σ "java/util/ArrayList$Itr" z := by obtain ⟨lr, h⟩ := h; exact rcv_of vC_14 h
set_option maxHeartbeats 4000000 in
set_option maxRecDepth 100000 in
theorem con_J16_init {l : Launch} {G : YG} {σ : AH} {p el : Nat} {mc : Int32} {ys : List Nat} {z : Nat} (hA : AL σ p el mc ys) (hz : σ z = some (.inr (14, [.int 0, .int 0, .int 0, .null]))) : Con l yJ16_init cJ16_init 2 none G 1 0 0 [.ref z, .ref p] σ (PV fun τ => QI τ z p mc 0 ∧ ∀ r, r ≠ z → τ r = σ r) := by
  refine con_of (by decide) (Nat.le_of_ble_eq_true rfl) ?_
  refine x_locs (L' := [(0, .ref z), (1, .ref p)]) [0, 1] rfl ?_
  have hp := hA.1
  have hK : Kp (fun r => r = z) σ σ := Kp.rf
  refine x_aload_n dJ16_init_0 0 rfl rfl ?_
  refine x_aload_n dJ16_init_1 1 rfl rfl ?_
  refine x_putF (fs' := [.int 0, .int 0, .int 0, .ref p]) dJ16_init_2 vC_14 in_J16 tyJ16_ok nmJ16 hz 3 (by decide) q458 rfl rfl rfl rfl (rfl) (rfl) (Nat.le_of_ble_eq_true rfl) rfl (fun σ1 hc3 hu2 => ?_)
  have hp := at_put hu2 hp (cell_ne hz hp rfl)
  have hK := hK.put hu2 rfl
  refine x_aload_n dJ16_init_5 0 rfl rfl ?_
  refine x_objInit dJ16_init_6 q451 q135 q136 ⟨by first | exact Nat.le_of_ble_eq_true rfl | (unfold yroom; simp only; omega), by first | exact Nat.le_of_ble_eq_true rfl | (unfold yroom; simp only; omega)⟩ rfl ?_
  refine x_aload_n dJ16_init_9 0 rfl rfl ?_
  refine x_iconst (v := (-1)) dJ16_init_10 (by decide) ?_
  refine x_put (fs' := [.int 0, .int (-1), .int 0, .ref p]) dJ16_init_11 vC_14 in_J16 tyJ16_ok nmJ16 hc3 1 (by decide) q456 rfl rfl (rfl) (rfl) (Nat.le_of_ble_eq_true rfl) rfl (fun σ4 hc6 hu5 => ?_)
  have hp := at_put hu5 hp (cell_ne hc3 hp rfl)
  have hK := hK.put hu5 rfl
  refine x_aload_n dJ16_init_14 0 rfl rfl ?_
  refine x_aload_n dJ16_init_15 0 rfl rfl ?_
  refine x_get dJ16_init_16 vC_14 in_J16 hc6 3 (by decide) q458 rfl ?_
  refine x_getS (ref := "java/util/ArrayList") dJ16_init_19 vC_10 in_J2 hp 0 (by decide) q170 q171 rfl ?_
  refine x_put (fs' := [.int 0, .int (-1), .int mc, .ref p]) dJ16_init_22 vC_14 in_J16 tyJ16_ok nmJ16 hc6 2 (by decide) q457 rfl rfl (rfl) (rfl) (Nat.le_of_ble_eq_true rfl) rfl (fun σ7 hc9 hu8 => ?_)
  have hp := at_put hu8 hp (cell_ne hc6 hp rfl)
  have hK := hK.put hu8 rfl
  exact x_vret dJ16_init_25 rfl (⟨rfl, ⟨_, hc9⟩, hK⟩)
set_option maxHeartbeats 4000000 in
set_option maxRecDepth 100000 in
theorem con_J2_iterator {l : Launch} {G : YG} {σ : AH} {p el : Nat} {mc : Int32} {ys : List Nat} (hA : AL σ p el mc ys) : Con l yJ2_iterator cJ2_iterator 1 (some (FieldType.object "java/util/Iterator")) G 2 1 4 [.ref p] σ (PA fun z τ => σ z = none ∧ QI τ z p mc 0 ∧ RO σ τ) := by
  refine con_of (by decide) (Nat.le_of_ble_eq_true rfl) ?_
  refine x_locs (L' := [(0, .ref p)]) [0] rfl ?_
  refine x_new (fs := [.int 0, .int 0, .int 0, .null]) dJ2_iterator_0 vC_14 in_J16 tyJ16_ok q1199 q1200 q106 rfl (by omega) (by omega) (fun z σ1 hn2 hb3 hc4 hu5 => ?_)
  have hA2 := hA.ro (ro_new hn2 hu5)
  refine x_dup dJ2_iterator_3 rfl ?_
  refine x_aload_n dJ2_iterator_4 0 rfl rfl ?_
  refine x_callI dJ2_iterator_5 (con_J16_init hA2 hc4) (lw_meth q450) q106 q1201 q449 rfl (np := 1) (by decide +kernel) rfl ⟨Nat.le_of_ble_eq_true rfl, Nat.le_of_ble_eq_true rfl⟩ (Nat.le_of_ble_eq_true rfl) rfl (Nat.zero_le _) (Nat.zero_le _) (rV fun σ6 h2 => ?_) nV'
  exact x_aret dJ2_iterator_8 rfl (by first | exact Or.inl ⟨_, rfl⟩ | exact Or.inr ⟨_, rfl⟩) (Or.inr ⟨_, rfl⟩) (⟨_, rfl, hn2, h2.1, ro_new hn2 (fun q hq => (h2.2 q hq).trans (hu5 q hq))⟩)
set_option maxHeartbeats 4000000 in
set_option maxRecDepth 100000 in
theorem con_J16_hasNext {l : Launch} {G : YG} {σ : AH} {p el : Nat} {mc : Int32} {ys : List Nat} {z j : Nat} (hA : AL σ p el mc ys) (hz : QI σ z p mc j) (hj : j ≤ ys.length) : Con l yJ16_hasNext cJ16_hasNext 1 (some FieldType.boolean) G 0 0 0 [.ref z] σ (PS σ (bI (decide (j < ys.length)))) := by
  refine con_of (by decide) (Nat.le_of_ble_eq_true rfl) ?_
  refine x_locs (L' := [(0, .ref z)]) [0] rfl ?_
  have hp := hA.1
  have hl8 := hA.2.2
  obtain ⟨lr, hzc⟩ := hz
  refine x_aload_n dJ16_hasNext_0 0 rfl rfl ?_
  refine x_get dJ16_hasNext_1 vC_14 in_J16 hzc 0 (by decide) q455 rfl ?_
  refine x_aload_n dJ16_hasNext_4 0 rfl rfl ?_
  refine x_get dJ16_hasNext_5 vC_14 in_J16 hzc 3 (by decide) q458 rfl ?_
  refine x_getN dJ16_hasNext_8 vC_10 in_J2 hp 2 (by decide) q165 rfl ?_
  refine x_icmp_eq (tgt := 18) dJ16_hasNext_11 (by decide) (fun c1 => ?_) (fun c1 => ?_)
  · have c1 := nEq (by omega) (by omega) c1
    refine x_iconst (v := nI 0) dJ16_hasNext_18 (by decide) ?_
    exact x_zret dJ16_hasNext_19 rfl (rfl) (pS' (by rw [decide_eq_false (by omega)]; rfl))
  · have c1 := nNe (by omega) (by omega) c1
    refine x_iconst (v := nI 1) dJ16_hasNext_14 (by decide) ?_
    refine x_goto (tgt := 19) dJ16_hasNext_15 (by decide) ?_
    exact x_zret dJ16_hasNext_19 rfl (rfl) (pS' (by rw [decide_eq_true (by omega)]; rfl))
set_option maxHeartbeats 4000000 in
set_option maxRecDepth 100000 in
theorem con_J16_checkForComodification {l : Launch} {G : YG} {σ : AH} {p el : Nat} {mc : Int32} {ys : List Nat} {z j : Nat} (hA : AL σ p el mc ys) (hz : QI σ z p mc j) : Con l yJ16_checkForComodification cJ16_checkForComodification 1 none G 0 0 0 [.ref z] σ (PV fun τ => τ = σ) := by
  refine con_of (by decide) (Nat.le_of_ble_eq_true rfl) ?_
  refine x_locs (L' := [(0, .ref z)]) [0] rfl ?_
  have hp := hA.1
  obtain ⟨lr, hzc⟩ := hz
  refine x_aload_n dJ16_checkForComodification_0 0 rfl rfl ?_
  refine x_get dJ16_checkForComodification_1 vC_14 in_J16 hzc 3 (by decide) q458 rfl ?_
  refine x_getS (ref := "java/util/ArrayList") dJ16_checkForComodification_4 vC_10 in_J2 hp 0 (by decide) q170 q171 rfl ?_
  refine x_aload_n dJ16_checkForComodification_7 0 rfl rfl ?_
  refine x_get dJ16_checkForComodification_8 vC_14 in_J16 hzc 2 (by decide) q457 rfl ?_
  refine x_icmp_eq (tgt := 22) dJ16_checkForComodification_11 (by decide) (fun _ => ?_) (fun h_ => absurd (rfl) h_)
  exact x_vret dJ16_checkForComodification_22 rfl (⟨rfl, rfl⟩)
set_option maxHeartbeats 4000000 in
set_option maxRecDepth 100000 in
theorem con_J16_next {l : Launch} {G : YG} {σ : AH} {p el : Nat} {mc : Int32} {ys : List Nat} {z j x : Nat} (hA : AL σ p el mc ys) (hz : QI σ z p mc j) (hx : ys[j]? = some x) : Con l yJ16_next cJ16_next 3 (some (FieldType.object "java/lang/Object")) G 1 0 0 [.ref z] σ (PA fun u τ => u = x ∧ QI τ z p mc (j + 1) ∧ ∀ r, r ≠ z → τ r = σ r) := by
  refine con_of (by decide) (Nat.le_of_ble_eq_true rfl) ?_
  refine x_locs (L' := [(0, .ref z)]) [0] rfl ?_
  refine x_aload_n dJ16_next_0 0 rfl rfl ?_
  refine x_callU dJ16_next_1 (con_J16_checkForComodification hA hz) (lw_U q897 q900 q899 q898 q106 q902) rfl (np := 0) (by decide +kernel) rfl hz.rc ⟨Nat.le_of_ble_eq_true rfl, Nat.le_of_ble_eq_true rfl⟩ (Nat.le_of_ble_eq_true rfl) rfl (by decide) (by decide) (rV fun σ1 h1 => ?_) nV'
  subst h1
  have hlt := get_lt' hx
  obtain ⟨hp, ⟨f, hel, hf⟩, hl8⟩ := hA
  obtain ⟨lr, hzc⟩ := hz
  have hK : Kp (fun r => r = z) σ1 σ1 := Kp.rf
  refine x_aload_n dJ16_next_4 0 rfl rfl ?_
  refine x_get dJ16_next_5 vC_14 in_J16 hzc 0 (by decide) q455 rfl ?_
  refine x_istore_n (i := 1) (L' := [(1, .int (nI j)), (0, .ref z)]) dJ16_next_8 rfl (by decide) rfl ?_
  refine x_iload_n dJ16_next_9 0 rfl rfl ?_
  refine x_aload_n dJ16_next_10 1 rfl rfl ?_
  refine x_get dJ16_next_11 vC_14 in_J16 hzc 3 (by decide) q458 rfl ?_
  refine x_getN dJ16_next_14 vC_10 in_J2 hp 2 (by decide) q165 rfl ?_
  refine x_icmp_lt (tgt := 28) dJ16_next_17 (by decide) (fun _ => ?_) (fun h_ => absurd ((nI_ltI (by omega) (by omega)).mpr hlt) h_)
  refine x_aload_n dJ16_next_28 1 rfl rfl ?_
  refine x_get dJ16_next_29 vC_14 in_J16 hzc 3 (by decide) q458 rfl ?_
  refine x_get dJ16_next_32 vC_10 in_J2 hp 1 (by decide) q164 rfl ?_
  refine x_astore_n (i := 2) (L' := [(2, .ref el), (1, .int (nI j)), (0, .ref z)]) dJ16_next_35 rfl (by decide) rfl ?_
  refine x_iload_n dJ16_next_36 1 rfl rfl ?_
  refine x_aload_n dJ16_next_37 0 rfl rfl ?_
  refine x_alen (N := 0) (q0 := 5) (v := nI 8) dJ16_next_38 hel rfl rfl ?_
  refine x_icmp_lt (tgt := 50) dJ16_next_39 (by decide) (fun _ => ?_) (fun h_ => absurd ((nI_ltI (by omega) (by decide)).mpr (by omega)) h_)
  refine x_aload_n dJ16_next_50 2 rfl rfl ?_
  refine x_iload_n dJ16_next_51 1 rfl rfl ?_
  refine x_iconst (v := nI 1) dJ16_next_52 (by decide) ?_
  refine x_iadd dJ16_next_53 ?_
  refine x_top (x' := nI (j + 1)) (nI_add _ _) ?_
  refine x_put (fs' := [.int (nI (j + 1)), .int lr, .int mc, .ref p]) dJ16_next_54 vC_14 in_J16 tyJ16_ok nmJ16 hzc 0 (by decide) q455 rfl rfl (rfl) (rfl) (Nat.le_of_ble_eq_true rfl) rfl (fun σ3 hc5 hu4 => ?_)
  have hp := at_put hu4 hp (cell_ne hzc hp rfl)
  have hel := at_put hu4 hel (cell_ne hzc hel rfl)
  have hK := hK.put hu4 rfl
  refine x_aload_n dJ16_next_57 0 rfl rfl ?_
  refine x_aload_n dJ16_next_58 2 rfl rfl ?_
  refine x_iload_n dJ16_next_59 1 rfl rfl ?_
  refine x_dup_x1 dJ16_next_60 rfl rfl ?_
  refine x_put (fs' := [.int (nI (j + 1)), .int (nI j), .int mc, .ref p]) dJ16_next_61 vC_14 in_J16 tyJ16_ok nmJ16 hc5 1 (by decide) q456 rfl rfl (rfl) (rfl) (Nat.le_of_ble_eq_true rfl) rfl (fun σ6 hc8 hu7 => ?_)
  have hp := at_put hu7 hp (cell_ne hc5 hp rfl)
  have hel := at_put hu7 hel (cell_ne hc5 hel rfl)
  have hK := hK.put hu7 rfl
  refine x_aald5 (N := 8) (j := j) dJ16_next_64 hel rfl (by omega) (by decide) (hf j x hx) ?_
  exact x_aret dJ16_next_65 rfl (by first | exact Or.inl ⟨_, rfl⟩ | exact Or.inr ⟨_, rfl⟩) (Or.inr ⟨_, rfl⟩) (⟨_, rfl, rfl, ⟨_, hc8⟩, hK⟩)
