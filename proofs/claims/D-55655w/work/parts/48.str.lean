set_option maxRecDepth 100000
set_option maxHeartbeats 4000000 in
set_option maxRecDepth 100000 in
theorem con_J11_coder {l : Launch} {G : YG} {σ : AH} {q : Nat} {t : List Nat}  (hq : StrAt G σ q t)  : Con l yJ11_coder cJ11_coder 1 (some FieldType.byte) G 0 0 0 [.ref q] σ (PS σ (nI 0)) := by
  refine con_of (by decide) (Nat.le_of_ble_eq_true rfl) ?_
  refine x_locs (L' := [(0, .ref q)]) [0] rfl ?_
  refine x_gets (i := 0) (v := .int (nI 1)) dJ11_coder_0 q772 rfl ?_
  refine x_if_eq (tgt := 13) dJ11_coder_3 (by decide) (fun h_ => absurd h_ (by decide)) (fun _ => ?_)
  refine x_aload_n dJ11_coder_6 0 rfl rfl ?_
  refine x_scod dJ11_coder_7 hq q858 ?_
  refine x_goto (tgt := 14) dJ11_coder_10 (by decide) ?_
  exact x_zret dJ11_coder_14 rfl (rfl) (pS)
set_option maxHeartbeats 4000000 in
set_option maxRecDepth 100000 in
theorem con_J11_isLatin1 {l : Launch} {G : YG} {σ : AH} {q : Nat} {t : List Nat}  (hq : StrAt G σ q t)  : Con l yJ11_isLatin1 cJ11_isLatin1 1 (some FieldType.boolean) G 0 0 0 [.ref q] σ (PS σ (nI 1)) := by
  refine con_of (by decide) (Nat.le_of_ble_eq_true rfl) ?_
  refine x_locs (L' := [(0, .ref q)]) [0] rfl ?_
  refine x_gets (i := 0) (v := .int (nI 1)) dJ11_isLatin1_0 q772 rfl ?_
  refine x_if_eq (tgt := 17) dJ11_isLatin1_3 (by decide) (fun h_ => absurd h_ (by decide)) (fun _ => ?_)
  refine x_aload_n dJ11_isLatin1_6 0 rfl rfl ?_
  refine x_scod dJ11_isLatin1_7 hq q858 ?_
  refine x_if_ne (tgt := 17) dJ11_isLatin1_10 (by decide) (fun h_ => absurd (rfl) h_) (fun _ => ?_)
  refine x_iconst (v := nI 1) dJ11_isLatin1_13 (by decide) ?_
  refine x_goto (tgt := 18) dJ11_isLatin1_14 (by decide) ?_
  exact x_zret dJ11_isLatin1_18 rfl (rfl) (pS)
theorem Int32_shr0 (x : Int32) : x >>> (nI 0 &&& 31) = x := b_ext fun i hi => by
  have h : 0 + i < 32 := by omega
  rw [b_sshr 0 (by decide) _ hi, if_pos h, Nat.zero_add]
set_option maxHeartbeats 4000000 in
set_option maxRecDepth 100000 in
theorem con_J11_length {l : Launch} {G : YG} {σ : AH} {q : Nat} {t : List Nat}  (hq : StrAt G σ q t)  : Con l yJ11_length cJ11_length 1 (some FieldType.int) G 1 0 0 [.ref q] σ (PS σ (nI t.length)) := by
  refine con_of (by decide) (Nat.le_of_ble_eq_true rfl) ?_
  refine x_locs (L' := [(0, .ref q)]) [0] rfl ?_
  refine x_aload_n dJ11_length_0 0 rfl rfl ?_
  refine x_sval dJ11_length_1 hq q857 (fun b hb => ?_)
  refine x_slen dJ11_length_4 hb ?_
  refine x_aload_n dJ11_length_5 0 rfl rfl ?_
  refine x_callV dJ11_length_6 (con_J11_coder hq) (lw_V q768 q769 q770 q99 q771) (np := 0) (by decide +kernel) rfl hq.rcv ⟨Nat.le_of_ble_eq_true rfl, Nat.le_of_ble_eq_true rfl⟩ (Nat.le_of_ble_eq_true rfl) rfl (by decide) (by decide) (rS ?_) nI'
  refine x_ishr dJ11_length_9 ?_
  refine x_top (x' := nI t.length) (Int32_shr0 _) ?_
  exact x_iret dJ11_length_10 rfl (pS' (by rfl))
set_option maxHeartbeats 4000000 in
set_option maxRecDepth 100000 in
theorem con_J14_checkIndexN {l : Launch} {G : YG} {σ : AH} {i n : Nat} (h : i < n) (hn : n < 2 ^ 31) : Con l yJ14_checkIndex cJ14_checkIndex 3 (some FieldType.int) G 0 0 0 [.int (nI i), .int (nI n), .null] σ (PS σ (nI i)) := by
  refine con_of (by decide) (Nat.le_of_ble_eq_true rfl) ?_
  refine x_locs (L' := [(0, .int (nI i)), (1, .int (nI n)), (2, .null)]) [0, 1, 2] rfl ?_
  refine x_iload_n dJ14_checkIndex_0 0 rfl rfl ?_
  refine x_if_lt (tgt := 9) dJ14_checkIndex_1 (by decide) (fun h_ => absurd h_ (nI_pos (by omega))) (fun _ => ?_)
  refine x_iload_n dJ14_checkIndex_4 0 rfl rfl ?_
  refine x_iload_n dJ14_checkIndex_5 1 rfl rfl ?_
  refine x_icmp_lt (tgt := 16) dJ14_checkIndex_6 (by decide) (fun _ => ?_) (fun h_ => absurd ((nI_ltI (by omega) hn).mpr h) h_)
  refine x_iload_n dJ14_checkIndex_16 0 rfl rfl ?_
  exact x_iret dJ14_checkIndex_17 rfl (pS' (by rfl))
set_option maxHeartbeats 4000000 in
set_option maxRecDepth 100000 in
theorem con_J14_checkIndexR {l : Launch} {G : YG} {σ : AH} {i n : Nat} {b : Nat} (h : i < n) (hn : n < 2 ^ 31) : Con l yJ14_checkIndex cJ14_checkIndex 3 (some FieldType.int) G 0 0 0 [.int (nI i), .int (nI n), .ref b] σ (PS σ (nI i)) := by
  refine con_of (by decide) (Nat.le_of_ble_eq_true rfl) ?_
  refine x_locs (L' := [(0, .int (nI i)), (1, .int (nI n)), (2, .ref b)]) [0, 1, 2] rfl ?_
  refine x_iload_n dJ14_checkIndex_0 0 rfl rfl ?_
  refine x_if_lt (tgt := 9) dJ14_checkIndex_1 (by decide) (fun h_ => absurd h_ (nI_pos (by omega))) (fun _ => ?_)
  refine x_iload_n dJ14_checkIndex_4 0 rfl rfl ?_
  refine x_iload_n dJ14_checkIndex_5 1 rfl rfl ?_
  refine x_icmp_lt (tgt := 16) dJ14_checkIndex_6 (by decide) (fun _ => ?_) (fun h_ => absurd ((nI_ltI (by omega) hn).mpr h) h_)
  refine x_iload_n dJ14_checkIndex_16 0 rfl rfl ?_
  exact x_iret dJ14_checkIndex_17 rfl (pS' (by rfl))
set_option maxHeartbeats 4000000 in
set_option maxRecDepth 100000 in
theorem con_J11_checkIndex {l : Launch} {G : YG} {σ : AH} {i n : Nat} (h : i < n) (hn : n < 2 ^ 31) : Con l yJ11_checkIndex cJ11_checkIndex 2 none G 1 0 0 [.int (nI i), .int (nI n)] σ (PV fun τ => τ = σ) := by
  refine con_of (by decide) (Nat.le_of_ble_eq_true rfl) ?_
  refine x_locs (L' := [(0, .int (nI i)), (1, .int (nI n))]) [0, 1] rfl ?_
  refine x_iload_n dJ11_checkIndex_0 0 rfl rfl ?_
  refine x_iload_n dJ11_checkIndex_1 1 rfl rfl ?_
  refine x_gets (i := 5) (v := gv G 0) dJ11_checkIndex_2 q750 rfl ?_
  refine x_gv (fun _ => ?_) (fun b _ => ?_)
  · refine x_callS dJ11_checkIndex_5 (con_J14_checkIndexN h hn) (lw_S q1528 q415 q103 q416) (np := 3) (by decide +kernel) rfl ⟨Nat.le_of_ble_eq_true rfl, Nat.le_of_ble_eq_true rfl⟩ (Nat.le_of_ble_eq_true rfl) rfl (by decide) (by decide) (rS ?_) nI'
    refine x_pop dJ11_checkIndex_8 rfl ?_
    exact x_vret dJ11_checkIndex_9 rfl (⟨rfl, rfl⟩)
  · refine x_callS dJ11_checkIndex_5 (con_J14_checkIndexR h hn) (lw_S q1528 q415 q103 q416) (np := 3) (by decide +kernel) rfl ⟨Nat.le_of_ble_eq_true rfl, Nat.le_of_ble_eq_true rfl⟩ (Nat.le_of_ble_eq_true rfl) rfl (by decide) (by decide) (rS ?_) nI'
    refine x_pop dJ11_checkIndex_8 rfl ?_
    exact x_vret dJ11_checkIndex_9 rfl (⟨rfl, rfl⟩)
set_option maxHeartbeats 4000000 in
set_option maxRecDepth 100000 in
theorem con_J25_charAt {l : Launch} {G : YG} {σ : AH} {b j c : Nat} {t : List Nat} (hb : BytAt G σ b t) (hj : t[j]? = some c) : Con l yJ25_charAt cJ25_charAt 2 (some FieldType.char) G 2 0 0 [.ref b, .int (nI j)] σ (PS σ (nI c)) := by
  refine con_of (by decide) (Nat.le_of_ble_eq_true rfl) ?_
  refine x_locs (L' := [(0, .ref b), (1, .int (nI j))]) [0, 1] rfl ?_
  have hlt := (List.getElem?_eq_some_iff.mp hj).1
  have hl := hb.len
  refine x_iload_n dJ25_charAt_0 1 rfl rfl ?_
  refine x_aload_n dJ25_charAt_1 0 rfl rfl ?_
  refine x_slen dJ25_charAt_2 hb ?_
  refine x_callS dJ25_charAt_3 (con_J11_checkIndex hlt (by omega)) (lw_S q1589 q1526 q99 q1527) (np := 2) (by decide +kernel) rfl ⟨Nat.le_of_ble_eq_true rfl, Nat.le_of_ble_eq_true rfl⟩ (Nat.le_of_ble_eq_true rfl) rfl (by decide) (by decide) (rV fun σ1 h1 => ?_) nV'
  subst h1
  refine x_aload_n dJ25_charAt_6 0 rfl rfl ?_
  refine x_iload_n dJ25_charAt_7 1 rfl rfl ?_
  refine x_sbyt (j := j) (c := c) dJ25_charAt_8 hb rfl hj ?_
  refine x_sipush (v := nI 255) dJ25_charAt_9 (by decide) ?_
  refine x_iand dJ25_charAt_12 ?_
  refine x_i2c (v := nI c) dJ25_charAt_13 (ch_byte (hb.ch hj)) ?_
  exact x_zret dJ25_charAt_14 rfl (ch_fit (hb.ch hj)) (pS)
set_option maxHeartbeats 4000000 in
set_option maxRecDepth 100000 in
theorem con_J11_charAt {l : Launch} {G : YG} {σ : AH} {q : Nat} {t : List Nat} {j c : Nat} (hq : StrAt G σ q t) (hj : t[j]? = some c) : Con l yJ11_charAt cJ11_charAt 2 (some FieldType.char) G 3 0 0 [.ref q, .int (nI j)] σ (PS σ (nI c)) := by
  refine con_of (by decide) (Nat.le_of_ble_eq_true rfl) ?_
  refine x_locs (L' := [(0, .ref q), (1, .int (nI j))]) [0, 1] rfl ?_
  refine x_aload_n dJ11_charAt_0 0 rfl rfl ?_
  refine x_callV dJ11_charAt_1 (con_J11_isLatin1 hq) (lw_V q1582 q1583 q1584 q99 q1585) (np := 0) (by decide +kernel) rfl hq.rcv ⟨Nat.le_of_ble_eq_true rfl, Nat.le_of_ble_eq_true rfl⟩ (Nat.le_of_ble_eq_true rfl) rfl (by decide) (by decide) (rS ?_) nI'
  refine x_if_eq (tgt := 16) dJ11_charAt_4 (by decide) (fun h_ => absurd h_ (by decide)) (fun _ => ?_)
  refine x_aload_n dJ11_charAt_7 0 rfl rfl ?_
  refine x_sval dJ11_charAt_8 hq q857 (fun b hb => ?_)
  refine x_iload_n dJ11_charAt_11 1 rfl rfl ?_
  refine x_callS dJ11_charAt_12 (con_J25_charAt hb hj) (lw_S q1586 q1587 q116 q1588) (np := 2) (by decide +kernel) rfl ⟨Nat.le_of_ble_eq_true rfl, Nat.le_of_ble_eq_true rfl⟩ (Nat.le_of_ble_eq_true rfl) rfl (by decide) (by decide) (rS ?_) nI'
  exact x_zret dJ11_charAt_15 rfl (ch_fit (hb.ch hj)) (pS)
theorem nmaxL {a b : Nat} (h : b ≤ a) : Nat.max a b = a := Nat.max_eq_left h
theorem nmaxR {a b : Nat} (h : a ≤ b) : Nat.max a b = b := Nat.max_eq_right h
theorem nminL {a b : Nat} (h : a ≤ b) : Nat.min a b = a := Nat.min_eq_left h
theorem nminR {a b : Nat} (h : b ≤ a) : Nat.min a b = b := Nat.min_eq_right h
set_option maxHeartbeats 4000000 in
set_option maxRecDepth 100000 in
theorem con_J6_max {l : Launch} {G : YG} {σ : AH} {x y : Nat} (hx : x < 2 ^ 31) (hy : y < 2 ^ 31) : Con l yJ6_max cJ6_max 2 (some FieldType.int) G 0 0 0 [.int (nI x), .int (nI y)] σ (PS σ (nI (Nat.max x y))) := by
  refine con_ofF (by decide +kernel) (Nat.le_of_ble_eq_true rfl) ?_
  refine x_locs (L' := [(0, .int (nI x)), (1, .int (nI y))]) [0, 1] rfl ?_
  refine x_iload_n dJ6_max_0 0 rfl rfl ?_
  refine x_iload_n dJ6_max_1 1 rfl rfl ?_
  refine x_icmp_lt (tgt := 9) dJ6_max_2 (by decide) (fun c1 => ?_) (fun c1 => ?_)
  · have c1 := nLt hx hy c1
    refine x_iload_n dJ6_max_9 1 rfl rfl ?_
    exact x_iret dJ6_max_10 rfl (pS' (congrArg nI (nmaxR (by omega)).symm))
  · have c1 := nNlt hx hy c1
    refine x_iload_n dJ6_max_5 0 rfl rfl ?_
    refine x_goto (tgt := 10) dJ6_max_6 (by decide) ?_
    exact x_iret dJ6_max_10 rfl (pS' (congrArg nI (nmaxL (by omega)).symm))
set_option maxHeartbeats 4000000 in
set_option maxRecDepth 100000 in
theorem con_J6_min {l : Launch} {G : YG} {σ : AH} {x y : Nat} (hx : x < 2 ^ 31) (hy : y < 2 ^ 31) : Con l yJ6_min cJ6_min 2 (some FieldType.int) G 0 0 0 [.int (nI x), .int (nI y)] σ (PS σ (nI (Nat.min x y))) := by
  refine con_ofF (by decide +kernel) (Nat.le_of_ble_eq_true rfl) ?_
  refine x_locs (L' := [(0, .int (nI x)), (1, .int (nI y))]) [0, 1] rfl ?_
  refine x_iload_n dJ6_min_0 0 rfl rfl ?_
  refine x_iload_n dJ6_min_1 1 rfl rfl ?_
  refine x_icmp_gt (tgt := 9) dJ6_min_2 (by decide) (fun c1 => ?_) (fun c1 => ?_)
  · have c1 := nLt hy hx c1
    refine x_iload_n dJ6_min_9 1 rfl rfl ?_
    exact x_iret dJ6_min_10 rfl (pS' (congrArg nI (nminR (by omega)).symm))
  · have c1 := nNlt hy hx c1
    refine x_iload_n dJ6_min_5 0 rfl rfl ?_
    refine x_goto (tgt := 10) dJ6_min_6 (by decide) ?_
    exact x_iret dJ6_min_10 rfl (pS' (congrArg nI (nminL (by omega)).symm))
set_option maxHeartbeats 4000000 in
set_option maxRecDepth 100000 in
theorem con_J25_canEncode_2 {l : Launch} {G : YG} {σ : AH} {c : Int32}  : Con l yJ25_canEncode_2 cJ25_canEncode_2 1 (some FieldType.boolean) G 0 0 0 [.int c] σ (PS σ (bI (decide (0 ≤ c) && decide (c ≤ 255)))) := by
  refine con_of (by decide) (Nat.le_of_ble_eq_true rfl) ?_
  refine x_locs (L' := [(0, .int c)]) [0] rfl ?_
  refine x_iload_n dJ25_canEncode_2_0 0 rfl rfl ?_
  refine x_if_lt (tgt := 15) dJ25_canEncode_2_1 (by decide) (fun c1 => ?_) (fun c1 => ?_)
  · have h1 : decide (0 ≤ c) = false := decide_eq_false (fun z => absurd c1 (Int32.not_lt.mpr z))
    refine x_iconst (v := nI 0) dJ25_canEncode_2_15 (by decide) ?_
    exact x_zret dJ25_canEncode_2_16 rfl (rfl) (pS' (by rw [h1]; rfl))
  · have h1 : decide (0 ≤ c) = true := decide_eq_true (Int32.not_lt.mp c1)
    refine x_iload_n dJ25_canEncode_2_4 0 rfl rfl ?_
    refine x_sipush (v := nI 255) dJ25_canEncode_2_5 (by decide) ?_
    refine x_icmp_gt (tgt := 15) dJ25_canEncode_2_8 (by decide) (fun c2 => ?_) (fun c2 => ?_)
    · have h2 : decide (c ≤ 255) = false := decide_eq_false (fun z => absurd c2 (Int32.not_lt.mpr z))
      refine x_iconst (v := nI 0) dJ25_canEncode_2_15 (by decide) ?_
      exact x_zret dJ25_canEncode_2_16 rfl (rfl) (pS' (by rw [h1, h2]; rfl))
    · have h2 : decide (c ≤ 255) = true := decide_eq_true (Int32.not_lt.mp c2)
      refine x_iconst (v := nI 1) dJ25_canEncode_2_11 (by decide) ?_
      refine x_goto (tgt := 16) dJ25_canEncode_2_12 (by decide) ?_
      exact x_zret dJ25_canEncode_2_16 rfl (rfl) (pS' (by rw [h1, h2]; rfl))
/-- where a character is first, from k on -/
def ixF (t : List Nat) (c : Nat) : Nat → Nat → Int32
  | 0, _ => -1
  | d + 1, k => if t[k]? = some c then nI k else ixF t c d (k + 1)
theorem byteOf {c : Nat} (h : c < 256) : (nI c).toInt8.toInt32 = (if c < 128 then nI c else nI c - nI 256) := (by decide +kernel : ∀ c, c < 256 → (nI c).toInt8.toInt32 = (if c < 128 then nI c else nI c - nI 256)) c h
theorem byte_eq {c x : Nat} (h : c < 256) (hx : x < 128) : nI x = (nI c).toInt8.toInt32 ↔ x = c := by
  rw [byteOf h]
  by_cases q : c < 128
  · rw [if_pos q]; exact nI_eq (by omega) (by omega)
  · rw [if_neg q]
    constructor
    · intro z
      have h1 := pk_sub_toInt (a := c) (b := 256) (by omega) (by omega)
      rw [← z, nI_toInt (by omega)] at h1
      omega
    · intro z; omega
set_option maxHeartbeats 4000000 in
set_option maxRecDepth 100000 in
theorem con_J25_indexOfChar {l : Launch} {G : YG} {σ : AH} {b c : Nat} {t : List Nat} (hb : BytAt G σ b t) (hc : c < 256) : Con l yJ25_indexOfChar cJ25_indexOfChar 6 (some FieldType.int) G 0 0 0 [.ref b, .int (nI c), .int (nI 0), .int (nI t.length)] σ (PS σ (ixF t c t.length 0)) := by
  refine con_of (by decide) (Nat.le_of_ble_eq_true rfl) ?_
  refine x_locs (L' := [(0, .ref b), (1, .int (nI c)), (2, .int (nI 0)), (3, .int (nI t.length))]) [0, 1, 2, 3] rfl ?_
  have hl := hb.len
  refine x_iload_n dJ25_indexOfChar_0 1 rfl rfl ?_
  refine x_i2b (v := (nI c).toInt8.toInt32) dJ25_indexOfChar_1 rfl ?_
  refine x_istore (i := 4) (L' := [(4, .int ((nI c).toInt8.toInt32)), (0, .ref b), (1, .int (nI c)), (2, .int (nI 0)), (3, .int (nI t.length))]) dJ25_indexOfChar_2 (by decide) rfl ?_
  refine x_iload_n dJ25_indexOfChar_4 3 rfl rfl ?_
  refine x_istore (i := 5) (L' := [(5, .int (nI 0)), (4, .int ((nI c).toInt8.toInt32)), (0, .ref b), (1, .int (nI c)), (2, .int (nI 0)), (3, .int (nI t.length))]) dJ25_indexOfChar_5 (by decide) rfl ?_
  refine x_locs (L' := [(0, .ref b), (1, .int (nI c)), (2, .int (nI 0)), (3, .int (nI t.length)), (4, .int ((nI c).toInt8.toInt32)), (5, .int (nI 0))]) [2, 3, 4, 5, 1, 0] rfl ?_
  suffices loop : ∀ (d i : Nat), i + d = t.length → ixF t c t.length 0 = ixF t c d i → X l yJ25_indexOfChar cJ25_indexOfChar 6 (some FieldType.int) [] G (yroom 0 0 0) (yEnd G (yroom 0 0 0) (PS σ (ixF t c t.length 0))) 7 [(0, .ref b), (1, .int (nI c)), (2, .int (nI 0)), (3, .int (nI t.length)), (4, .int ((nI c).toInt8.toInt32)), (5, .int (nI i))] [] σ 0 0 from loop t.length 0 (Nat.zero_add _) rfl
  intro d
  induction d with
  | zero =>
    intro i hi hco
    have hin : i = t.length := by omega
    subst hin
    refine x_iload dJ25_indexOfChar_7 5 rfl ?_
    refine x_iload_n dJ25_indexOfChar_9 3 rfl rfl ?_
    refine x_icmp_ge (tgt := 31) dJ25_indexOfChar_10 (by decide) (fun _ => ?_) (fun h_ => absurd ((nI_leI (by omega) (by omega)).mpr (Nat.le_refl _)) h_)
    refine x_iconst (v := (-1)) dJ25_indexOfChar_31 (by decide) ?_
    exact x_iret dJ25_indexOfChar_32 rfl (pS' (by rw [hco]; rfl))
  | succ d ih =>
    intro i hi hco
    obtain ⟨x, hx⟩ : ∃ x, t[i]? = some x := ⟨_, List.getElem?_eq_getElem (by omega)⟩
    have hx128 := hb.ch hx
    refine x_iload dJ25_indexOfChar_7 5 rfl ?_
    refine x_iload_n dJ25_indexOfChar_9 3 rfl rfl ?_
    refine x_icmp_ge (tgt := 31) dJ25_indexOfChar_10 (by decide) (fun h_ => absurd h_ (fun h => absurd (nLe (by omega) (by omega) h) (by omega))) (fun _ => ?_)
    refine x_aload_n dJ25_indexOfChar_13 0 rfl rfl ?_
    refine x_iload dJ25_indexOfChar_14 5 rfl ?_
    refine x_sbyt (j := i) (c := x) dJ25_indexOfChar_16 hb rfl hx ?_
    refine x_iload dJ25_indexOfChar_17 4 rfl ?_
    refine x_icmp_ne (tgt := 25) dJ25_indexOfChar_19 (by decide) (fun c1 => ?_) (fun c1 => ?_)
    · have c1 : x ≠ c := fun z => c1 ((byte_eq hc hx128).mpr z)
      refine x_iinc (i := 5) (q := 5) (v := nI (i + 1)) (L' := [(5, .int (nI (i + 1))), (0, .ref b), (1, .int (nI c)), (2, .int (nI 0)), (3, .int (nI t.length)), (4, .int ((nI c).toInt8.toInt32))]) dJ25_indexOfChar_25 rfl (nI_1 _) (by decide) rfl ?_
      refine x_goto (tgt := 7) dJ25_indexOfChar_28 (by decide) ?_
      refine x_locs (L' := [(0, .ref b), (1, .int (nI c)), (2, .int (nI 0)), (3, .int (nI t.length)), (4, .int ((nI c).toInt8.toInt32)), (5, .int (nI (i + 1)))]) [1, 2, 3, 4, 5, 0] rfl ?_
      exact ih (i + 1) (by omega) (hco.trans (if_neg (fun z => c1 (by rw [hx] at z; exact Option.some.inj z))))
    · have c1 : x = c := (byte_eq hc hx128).mp c1
      refine x_iload dJ25_indexOfChar_22 5 rfl ?_
      exact x_iret dJ25_indexOfChar_24 rfl (pS' (by rw [hco]; unfold ixF; rw [if_pos (by rw [hx, c1])]))
set_option maxHeartbeats 4000000 in
set_option maxRecDepth 100000 in
theorem con_J25_indexOf {l : Launch} {G : YG} {σ : AH} {b : Nat} {c : Int32} {t : List Nat} (hb : BytAt G σ b t) (hpos : 0 < t.length) : Con l yJ25_indexOf cJ25_indexOf 4 (some FieldType.int) G 1 0 0 [.ref b, .int c, .int (nI 0), .int (nI t.length)] σ (PS σ (if decide (0 ≤ c) && decide (c ≤ 255) then ixF t c.toNatClampNeg t.length 0 else -1)) := by
  refine con_of (by decide) (Nat.le_of_ble_eq_true rfl) ?_
  refine x_locs (L' := [(0, .ref b), (1, .int c), (2, .int (nI 0)), (3, .int (nI t.length))]) [0, 1, 2, 3] rfl ?_
  have hl := hb.len
  refine x_iload_n dJ25_indexOf_0 1 rfl rfl ?_
  refine x_callS dJ25_indexOf_1 (con_J25_canEncode_2) (lw_S q1657 q1658 q116 q1659) (np := 1) (by decide +kernel) rfl ⟨Nat.le_of_ble_eq_true rfl, Nat.le_of_ble_eq_true rfl⟩ (Nat.le_of_ble_eq_true rfl) rfl (by decide) (by decide) (rS ?_) nI'
  refine x_if_ne (tgt := 9) dJ25_indexOf_4 (by decide) (fun c1 => ?_) (fun c1 => ?_)
  · have c1 := bI_1 c1
    have c2 := c1
    simp only [Bool.and_eq_true, decide_eq_true_eq] at c2
    obtain ⟨i, hi, rfl, hin⟩ := i32_of (n := 256) c2.1 (Int32.lt_iff_toInt_lt.mpr (by have := Int32.le_iff_toInt_le.mp c2.2; have e1 : (255 : Int32).toInt = 255 := by decide
                                                                                      have e2 : (nI 256).toInt = 256 := by decide
                                                                                      omega)) (by decide)
    refine x_iload_n dJ25_indexOf_9 2 rfl rfl ?_
    refine x_iconst (v := nI 0) dJ25_indexOf_10 (by decide) ?_
    refine x_callS dJ25_indexOf_11 (con_J6_max (x := 0) (y := 0) (by decide) (by decide)) (lw_S q1660 q227 q93 q228) (np := 2) (by decide +kernel) rfl ⟨Nat.le_of_ble_eq_true rfl, Nat.le_of_ble_eq_true rfl⟩ (Nat.le_of_ble_eq_true rfl) rfl (by decide) (by decide) (rS ?_) nI'
    refine x_top (x' := nI 0) (rfl) ?_
    refine x_istore_n (i := 2) (L' := [(2, .int (nI 0)), (0, .ref b), (1, .int (nI i)), (3, .int (nI t.length))]) dJ25_indexOf_14 rfl (by decide) rfl ?_
    refine x_iload_n dJ25_indexOf_15 3 rfl rfl ?_
    refine x_aload_n dJ25_indexOf_16 1 rfl rfl ?_
    refine x_slen dJ25_indexOf_17 hb ?_
    refine x_callS dJ25_indexOf_18 (con_J6_min (x := t.length) (y := t.length) (by omega) (by omega)) (lw_S q1661 q271 q93 q272) (np := 2) (by decide +kernel) rfl ⟨Nat.le_of_ble_eq_true rfl, Nat.le_of_ble_eq_true rfl⟩ (Nat.le_of_ble_eq_true rfl) rfl (by decide) (by decide) (rS ?_) nI'
    refine x_top (x' := nI t.length) (congrArg nI (nminL (Nat.le_refl _))) ?_
    refine x_istore_n (i := 3) (L' := [(3, .int (nI t.length)), (2, .int (nI 0)), (0, .ref b), (1, .int (nI i))]) dJ25_indexOf_21 rfl (by decide) rfl ?_
    refine x_iload_n dJ25_indexOf_22 1 rfl rfl ?_
    refine x_iload_n dJ25_indexOf_23 0 rfl rfl ?_
    refine x_icmp_lt (tgt := 29) dJ25_indexOf_24 (by decide) (fun _ => ?_) (fun h_ => absurd ((nI_ltI (by omega) (by omega)).mpr hpos) h_)
    refine x_aload_n dJ25_indexOf_29 2 rfl rfl ?_
    refine x_iload_n dJ25_indexOf_30 3 rfl rfl ?_
    refine x_iload_n dJ25_indexOf_31 1 rfl rfl ?_
    refine x_iload_n dJ25_indexOf_32 0 rfl rfl ?_
    refine x_callS dJ25_indexOf_33 (con_J25_indexOfChar hb hi) (lw_S q1662 q1663 q116 q1664) (np := 4) (by decide +kernel) rfl ⟨Nat.le_of_ble_eq_true rfl, Nat.le_of_ble_eq_true rfl⟩ (Nat.le_of_ble_eq_true rfl) rfl (by decide) (by decide) (rS ?_) nI'
    exact x_iret dJ25_indexOf_36 rfl (pS' (by rw [c1, hin]; rfl))
  · have c1 := bI_0 c1
    refine x_iconst (v := (-1)) dJ25_indexOf_7 (by decide) ?_
    exact x_iret dJ25_indexOf_8 rfl (pS' (by rw [c1]; rfl))
set_option maxHeartbeats 4000000 in
set_option maxRecDepth 100000 in
theorem con_J11_indexOf_2 {l : Launch} {G : YG} {σ : AH} {q : Nat} {t : List Nat} {c : Int32} (hq : StrAt G σ q t) (hpos : 0 < t.length) : Con l yJ11_indexOf_2 cJ11_indexOf_2 3 (some FieldType.int) G 2 0 0 [.ref q, .int c, .int (nI 0)] σ (PS σ (if decide (0 ≤ c) && decide (c ≤ 255) then ixF t c.toNatClampNeg t.length 0 else -1)) := by
  refine con_of (by decide) (Nat.le_of_ble_eq_true rfl) ?_
  refine x_locs (L' := [(0, .ref q), (1, .int c), (2, .int (nI 0))]) [0, 1, 2] rfl ?_
  refine x_aload_n dJ11_indexOf_2_0 0 rfl rfl ?_
  refine x_callV dJ11_indexOf_2_1 (con_J11_isLatin1 hq) (lw_V q1582 q1583 q1584 q99 q1585) (np := 0) (by decide +kernel) rfl hq.rcv ⟨Nat.le_of_ble_eq_true rfl, Nat.le_of_ble_eq_true rfl⟩ (Nat.le_of_ble_eq_true rfl) rfl (by decide) (by decide) (rS ?_) nI'
  refine x_if_eq (tgt := 23) dJ11_indexOf_2_4 (by decide) (fun h_ => absurd h_ (by decide)) (fun _ => ?_)
  refine x_aload_n dJ11_indexOf_2_7 0 rfl rfl ?_
  refine x_sval dJ11_indexOf_2_8 hq q857 (fun b hb => ?_)
  refine x_iload_n dJ11_indexOf_2_11 1 rfl rfl ?_
  refine x_iload_n dJ11_indexOf_2_12 2 rfl rfl ?_
  refine x_aload_n dJ11_indexOf_2_13 0 rfl rfl ?_
  refine x_callV dJ11_indexOf_2_14 (con_J11_length hq) (lw_V q1653 q765 q766 q99 q767) (np := 0) (by decide +kernel) rfl hq.rcv ⟨Nat.le_of_ble_eq_true rfl, Nat.le_of_ble_eq_true rfl⟩ (Nat.le_of_ble_eq_true rfl) rfl (by decide) (by decide) (rS ?_) nI'
  refine x_callS dJ11_indexOf_2_17 (con_J25_indexOf hb hpos) (lw_S q1654 q1655 q116 q1656) (np := 4) (by decide +kernel) rfl ⟨Nat.le_of_ble_eq_true rfl, Nat.le_of_ble_eq_true rfl⟩ (Nat.le_of_ble_eq_true rfl) rfl (by decide) (by decide) (rS ?_) nI'
  refine x_goto (tgt := 36) dJ11_indexOf_2_20 (by decide) ?_
  exact x_iret dJ11_indexOf_2_36 rfl (pS)
set_option maxHeartbeats 4000000 in
set_option maxRecDepth 100000 in
theorem con_J11_indexOf {l : Launch} {G : YG} {σ : AH} {q : Nat} {t : List Nat} {c : Int32} (hq : StrAt G σ q t) (hpos : 0 < t.length) : Con l yJ11_indexOf cJ11_indexOf 2 (some FieldType.int) G 3 0 0 [.ref q, .int c] σ (PS σ (if decide (0 ≤ c) && decide (c ≤ 255) then ixF t c.toNatClampNeg t.length 0 else -1)) := by
  refine con_of (by decide) (Nat.le_of_ble_eq_true rfl) ?_
  refine x_locs (L' := [(0, .ref q), (1, .int c)]) [0, 1] rfl ?_
  refine x_aload_n dJ11_indexOf_0 0 rfl rfl ?_
  refine x_iload_n dJ11_indexOf_1 1 rfl rfl ?_
  refine x_iconst (v := nI 0) dJ11_indexOf_2 (by decide) ?_
  refine x_callV dJ11_indexOf_3 (con_J11_indexOf_2 hq hpos) (lw_V q1649 q1650 q1651 q99 q1652) (np := 2) (by decide +kernel) rfl hq.rcv ⟨Nat.le_of_ble_eq_true rfl, Nat.le_of_ble_eq_true rfl⟩ (Nat.le_of_ble_eq_true rfl) rfl (by decide) (by decide) (rS ?_) nI'
  exact x_iret dJ11_indexOf_6 rfl (pS)
