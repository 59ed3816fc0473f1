set_option maxRecDepth 100000
set_option maxHeartbeats 4000000 in
set_option maxRecDepth 100000 in
theorem con_J20_numberOfTrailingZeros {l : Launch} {G : YG} {σ : AH} {z : Int32} {f : Nat → Bool} {k : Nat} (hz : BS z f) (hk : k < 24) (hf : f k = true) (hl : ∀ j, j < k → f j = false) : Con l yJ20_numberOfTrailingZeros cJ20_numberOfTrailingZeros 2 (some FieldType.int) G 0 0 0 [.int z] σ (PS σ (nI k)) := by
  refine con_of (by decide) (Nat.le_of_ble_eq_true rfl) ?_
  refine x_locs (L' := [(0, .int z)]) [0] rfl ?_
  refine x_iload_n dJ20_numberOfTrailingZeros_0 0 rfl rfl ?_
  refine x_iconst (v := (-1)) dJ20_numberOfTrailingZeros_1 (by decide) ?_
  refine x_ixor dJ20_numberOfTrailingZeros_2 ?_
  refine x_iload_n dJ20_numberOfTrailingZeros_3 0 rfl rfl ?_
  refine x_iconst (v := nI 1) dJ20_numberOfTrailingZeros_4 (by decide) ?_
  refine x_isub dJ20_numberOfTrailingZeros_5 ?_
  refine x_iand dJ20_numberOfTrailingZeros_6 ?_
  refine x_top (x' := nI (2 ^ k - 1)) (ntz_mask hz hk hf hl) ?_
  refine x_istore_n (i := 0) (L' := [(0, .int (nI (2 ^ k - 1)))]) dJ20_numberOfTrailingZeros_7 rfl (by decide) rfl ?_
  refine x_locs (L' := [(0, .int (nI (2 ^ k - 1)))]) [0] rfl ?_
  have key : ∀ k, k < 24 → X l yJ20_numberOfTrailingZeros cJ20_numberOfTrailingZeros 2 (some FieldType.int) [] G (yroom 0 0 0) (yEnd G (yroom 0 0 0) (PS σ (nI k))) 8 [(0, .int (nI (2 ^ k - 1)))] [] σ 0 0 := by
    intro k hk
    rcases (show k = 0 ∨ k = 1 ∨ k = 2 ∨ k = 3 ∨ k = 4 ∨ k = 5 ∨ k = 6 ∨ k = 7 ∨ k = 8 ∨ k = 9 ∨ k = 10 ∨ k = 11 ∨ k = 12 ∨ k = 13 ∨ k = 14 ∨ k = 15 ∨ k = 16 ∨ k = 17 ∨ k = 18 ∨ k = 19 ∨ k = 20 ∨ k = 21 ∨ k = 22 ∨ k = 23 by omega) with rfl | rfl | rfl | rfl | rfl | rfl | rfl | rfl | rfl | rfl | rfl | rfl | rfl | rfl | rfl | rfl | rfl | rfl | rfl | rfl | rfl | rfl | rfl | rfl
    · show X l yJ20_numberOfTrailingZeros cJ20_numberOfTrailingZeros 2 (some FieldType.int) [] G (yroom 0 0 0) (yEnd G (yroom 0 0 0) (PS σ (nI 0))) 8 [(0, .int (nI 0))] [] σ 0 0
      refine x_iload_n dJ20_numberOfTrailingZeros_8 0 rfl rfl ?_
      refine x_if_gt (tgt := 17) dJ20_numberOfTrailingZeros_9 (by decide) (fun h_ => absurd h_ (by decide)) (fun _ => ?_)
      refine x_iload_n dJ20_numberOfTrailingZeros_12 0 rfl rfl ?_
      refine x_bipush (v := nI 32) dJ20_numberOfTrailingZeros_13 (by decide) ?_
      refine x_iand dJ20_numberOfTrailingZeros_15 ?_
      exact x_iret dJ20_numberOfTrailingZeros_16 rfl (pS' (by decide))
    · show X l yJ20_numberOfTrailingZeros cJ20_numberOfTrailingZeros 2 (some FieldType.int) [] G (yroom 0 0 0) (yEnd G (yroom 0 0 0) (PS σ (nI 1))) 8 [(0, .int (nI 1))] [] σ 0 0
      refine x_iload_n dJ20_numberOfTrailingZeros_8 0 rfl rfl ?_
      refine x_if_gt (tgt := 17) dJ20_numberOfTrailingZeros_9 (by decide) (fun _ => ?_) (fun h_ => absurd (by decide) h_)
      refine x_iconst (v := nI 1) dJ20_numberOfTrailingZeros_17 (by decide) ?_
      refine x_istore_n (i := 1) (L' := [(1, .int (nI 1)), (0, .int (nI 1))]) dJ20_numberOfTrailingZeros_18 rfl (by decide) rfl ?_
      refine x_iload_n dJ20_numberOfTrailingZeros_19 1 rfl rfl ?_
      refine x_ldcw (v := nI 65536) dJ20_numberOfTrailingZeros_20 q570 ?_
      refine x_icmp_le (tgt := 34) dJ20_numberOfTrailingZeros_23 (by decide) (fun _ => ?_) (fun h_ => absurd (by decide) h_)
      refine x_iload_n dJ20_numberOfTrailingZeros_34 1 rfl rfl ?_
      refine x_sipush (v := nI 256) dJ20_numberOfTrailingZeros_35 (by decide) ?_
      refine x_icmp_le (tgt := 49) dJ20_numberOfTrailingZeros_38 (by decide) (fun _ => ?_) (fun h_ => absurd (by decide) h_)
      refine x_iload_n dJ20_numberOfTrailingZeros_49 1 rfl rfl ?_
      refine x_bipush (v := nI 16) dJ20_numberOfTrailingZeros_50 (by decide) ?_
      refine x_icmp_le (tgt := 62) dJ20_numberOfTrailingZeros_52 (by decide) (fun _ => ?_) (fun h_ => absurd (by decide) h_)
      refine x_iload_n dJ20_numberOfTrailingZeros_62 1 rfl rfl ?_
      refine x_iconst (v := nI 4) dJ20_numberOfTrailingZeros_63 (by decide) ?_
      refine x_icmp_le (tgt := 74) dJ20_numberOfTrailingZeros_64 (by decide) (fun _ => ?_) (fun h_ => absurd (by decide) h_)
      refine x_iload_n dJ20_numberOfTrailingZeros_74 0 rfl rfl ?_
      refine x_iload_n dJ20_numberOfTrailingZeros_75 1 rfl rfl ?_
      refine x_iconst (v := nI 1) dJ20_numberOfTrailingZeros_76 (by decide) ?_
      refine x_iushr (v := nI 0) dJ20_numberOfTrailingZeros_77 (by decide) ?_
      refine x_iadd dJ20_numberOfTrailingZeros_78 ?_
      refine x_top (x' := nI (1 + 0)) (nI_add _ _) ?_
      exact x_iret dJ20_numberOfTrailingZeros_79 rfl (pS' (by decide))
    · show X l yJ20_numberOfTrailingZeros cJ20_numberOfTrailingZeros 2 (some FieldType.int) [] G (yroom 0 0 0) (yEnd G (yroom 0 0 0) (PS σ (nI 2))) 8 [(0, .int (nI 3))] [] σ 0 0
      refine x_iload_n dJ20_numberOfTrailingZeros_8 0 rfl rfl ?_
      refine x_if_gt (tgt := 17) dJ20_numberOfTrailingZeros_9 (by decide) (fun _ => ?_) (fun h_ => absurd (by decide) h_)
      refine x_iconst (v := nI 1) dJ20_numberOfTrailingZeros_17 (by decide) ?_
      refine x_istore_n (i := 1) (L' := [(1, .int (nI 1)), (0, .int (nI 3))]) dJ20_numberOfTrailingZeros_18 rfl (by decide) rfl ?_
      refine x_iload_n dJ20_numberOfTrailingZeros_19 1 rfl rfl ?_
      refine x_ldcw (v := nI 65536) dJ20_numberOfTrailingZeros_20 q570 ?_
      refine x_icmp_le (tgt := 34) dJ20_numberOfTrailingZeros_23 (by decide) (fun _ => ?_) (fun h_ => absurd (by decide) h_)
      refine x_iload_n dJ20_numberOfTrailingZeros_34 1 rfl rfl ?_
      refine x_sipush (v := nI 256) dJ20_numberOfTrailingZeros_35 (by decide) ?_
      refine x_icmp_le (tgt := 49) dJ20_numberOfTrailingZeros_38 (by decide) (fun _ => ?_) (fun h_ => absurd (by decide) h_)
      refine x_iload_n dJ20_numberOfTrailingZeros_49 1 rfl rfl ?_
      refine x_bipush (v := nI 16) dJ20_numberOfTrailingZeros_50 (by decide) ?_
      refine x_icmp_le (tgt := 62) dJ20_numberOfTrailingZeros_52 (by decide) (fun _ => ?_) (fun h_ => absurd (by decide) h_)
      refine x_iload_n dJ20_numberOfTrailingZeros_62 1 rfl rfl ?_
      refine x_iconst (v := nI 4) dJ20_numberOfTrailingZeros_63 (by decide) ?_
      refine x_icmp_le (tgt := 74) dJ20_numberOfTrailingZeros_64 (by decide) (fun _ => ?_) (fun h_ => absurd (by decide) h_)
      refine x_iload_n dJ20_numberOfTrailingZeros_74 0 rfl rfl ?_
      refine x_iload_n dJ20_numberOfTrailingZeros_75 1 rfl rfl ?_
      refine x_iconst (v := nI 1) dJ20_numberOfTrailingZeros_76 (by decide) ?_
      refine x_iushr (v := nI 1) dJ20_numberOfTrailingZeros_77 (by decide) ?_
      refine x_iadd dJ20_numberOfTrailingZeros_78 ?_
      refine x_top (x' := nI (1 + 1)) (nI_add _ _) ?_
      exact x_iret dJ20_numberOfTrailingZeros_79 rfl (pS' (by decide))
    · show X l yJ20_numberOfTrailingZeros cJ20_numberOfTrailingZeros 2 (some FieldType.int) [] G (yroom 0 0 0) (yEnd G (yroom 0 0 0) (PS σ (nI 3))) 8 [(0, .int (nI 7))] [] σ 0 0
      refine x_iload_n dJ20_numberOfTrailingZeros_8 0 rfl rfl ?_
      refine x_if_gt (tgt := 17) dJ20_numberOfTrailingZeros_9 (by decide) (fun _ => ?_) (fun h_ => absurd (by decide) h_)
      refine x_iconst (v := nI 1) dJ20_numberOfTrailingZeros_17 (by decide) ?_
      refine x_istore_n (i := 1) (L' := [(1, .int (nI 1)), (0, .int (nI 7))]) dJ20_numberOfTrailingZeros_18 rfl (by decide) rfl ?_
      refine x_iload_n dJ20_numberOfTrailingZeros_19 1 rfl rfl ?_
      refine x_ldcw (v := nI 65536) dJ20_numberOfTrailingZeros_20 q570 ?_
      refine x_icmp_le (tgt := 34) dJ20_numberOfTrailingZeros_23 (by decide) (fun _ => ?_) (fun h_ => absurd (by decide) h_)
      refine x_iload_n dJ20_numberOfTrailingZeros_34 1 rfl rfl ?_
      refine x_sipush (v := nI 256) dJ20_numberOfTrailingZeros_35 (by decide) ?_
      refine x_icmp_le (tgt := 49) dJ20_numberOfTrailingZeros_38 (by decide) (fun _ => ?_) (fun h_ => absurd (by decide) h_)
      refine x_iload_n dJ20_numberOfTrailingZeros_49 1 rfl rfl ?_
      refine x_bipush (v := nI 16) dJ20_numberOfTrailingZeros_50 (by decide) ?_
      refine x_icmp_le (tgt := 62) dJ20_numberOfTrailingZeros_52 (by decide) (fun _ => ?_) (fun h_ => absurd (by decide) h_)
      refine x_iload_n dJ20_numberOfTrailingZeros_62 1 rfl rfl ?_
      refine x_iconst (v := nI 4) dJ20_numberOfTrailingZeros_63 (by decide) ?_
      refine x_icmp_le (tgt := 74) dJ20_numberOfTrailingZeros_64 (by decide) (fun h_ => absurd h_ (by decide)) (fun _ => ?_)
      refine x_iinc (i := 1) (q := 0) (v := nI 3) (L' := [(1, .int (nI 3)), (0, .int (nI 7))]) dJ20_numberOfTrailingZeros_67 rfl (by decide) (by decide) rfl ?_
      refine x_iload_n dJ20_numberOfTrailingZeros_70 1 rfl rfl ?_
      refine x_iconst (v := nI 2) dJ20_numberOfTrailingZeros_71 (by decide) ?_
      refine x_iushr (v := nI 1) dJ20_numberOfTrailingZeros_72 (by decide) ?_
      refine x_istore_n (i := 0) (L' := [(0, .int (nI 1)), (1, .int (nI 3))]) dJ20_numberOfTrailingZeros_73 rfl (by decide) rfl ?_
      refine x_iload_n dJ20_numberOfTrailingZeros_74 1 rfl rfl ?_
      refine x_iload_n dJ20_numberOfTrailingZeros_75 0 rfl rfl ?_
      refine x_iconst (v := nI 1) dJ20_numberOfTrailingZeros_76 (by decide) ?_
      refine x_iushr (v := nI 0) dJ20_numberOfTrailingZeros_77 (by decide) ?_
      refine x_iadd dJ20_numberOfTrailingZeros_78 ?_
      refine x_top (x' := nI (3 + 0)) (nI_add _ _) ?_
      exact x_iret dJ20_numberOfTrailingZeros_79 rfl (pS' (by decide))
    · show X l yJ20_numberOfTrailingZeros cJ20_numberOfTrailingZeros 2 (some FieldType.int) [] G (yroom 0 0 0) (yEnd G (yroom 0 0 0) (PS σ (nI 4))) 8 [(0, .int (nI 15))] [] σ 0 0
      refine x_iload_n dJ20_numberOfTrailingZeros_8 0 rfl rfl ?_
      refine x_if_gt (tgt := 17) dJ20_numberOfTrailingZeros_9 (by decide) (fun _ => ?_) (fun h_ => absurd (by decide) h_)
      refine x_iconst (v := nI 1) dJ20_numberOfTrailingZeros_17 (by decide) ?_
      refine x_istore_n (i := 1) (L' := [(1, .int (nI 1)), (0, .int (nI 15))]) dJ20_numberOfTrailingZeros_18 rfl (by decide) rfl ?_
      refine x_iload_n dJ20_numberOfTrailingZeros_19 1 rfl rfl ?_
      refine x_ldcw (v := nI 65536) dJ20_numberOfTrailingZeros_20 q570 ?_
      refine x_icmp_le (tgt := 34) dJ20_numberOfTrailingZeros_23 (by decide) (fun _ => ?_) (fun h_ => absurd (by decide) h_)
      refine x_iload_n dJ20_numberOfTrailingZeros_34 1 rfl rfl ?_
      refine x_sipush (v := nI 256) dJ20_numberOfTrailingZeros_35 (by decide) ?_
      refine x_icmp_le (tgt := 49) dJ20_numberOfTrailingZeros_38 (by decide) (fun _ => ?_) (fun h_ => absurd (by decide) h_)
      refine x_iload_n dJ20_numberOfTrailingZeros_49 1 rfl rfl ?_
      refine x_bipush (v := nI 16) dJ20_numberOfTrailingZeros_50 (by decide) ?_
      refine x_icmp_le (tgt := 62) dJ20_numberOfTrailingZeros_52 (by decide) (fun _ => ?_) (fun h_ => absurd (by decide) h_)
      refine x_iload_n dJ20_numberOfTrailingZeros_62 1 rfl rfl ?_
      refine x_iconst (v := nI 4) dJ20_numberOfTrailingZeros_63 (by decide) ?_
      refine x_icmp_le (tgt := 74) dJ20_numberOfTrailingZeros_64 (by decide) (fun h_ => absurd h_ (by decide)) (fun _ => ?_)
      refine x_iinc (i := 1) (q := 0) (v := nI 3) (L' := [(1, .int (nI 3)), (0, .int (nI 15))]) dJ20_numberOfTrailingZeros_67 rfl (by decide) (by decide) rfl ?_
      refine x_iload_n dJ20_numberOfTrailingZeros_70 1 rfl rfl ?_
      refine x_iconst (v := nI 2) dJ20_numberOfTrailingZeros_71 (by decide) ?_
      refine x_iushr (v := nI 3) dJ20_numberOfTrailingZeros_72 (by decide) ?_
      refine x_istore_n (i := 0) (L' := [(0, .int (nI 3)), (1, .int (nI 3))]) dJ20_numberOfTrailingZeros_73 rfl (by decide) rfl ?_
      refine x_iload_n dJ20_numberOfTrailingZeros_74 1 rfl rfl ?_
      refine x_iload_n dJ20_numberOfTrailingZeros_75 0 rfl rfl ?_
      refine x_iconst (v := nI 1) dJ20_numberOfTrailingZeros_76 (by decide) ?_
      refine x_iushr (v := nI 1) dJ20_numberOfTrailingZeros_77 (by decide) ?_
      refine x_iadd dJ20_numberOfTrailingZeros_78 ?_
      refine x_top (x' := nI (3 + 1)) (nI_add _ _) ?_
      exact x_iret dJ20_numberOfTrailingZeros_79 rfl (pS' (by decide))
    · show X l yJ20_numberOfTrailingZeros cJ20_numberOfTrailingZeros 2 (some FieldType.int) [] G (yroom 0 0 0) (yEnd G (yroom 0 0 0) (PS σ (nI 5))) 8 [(0, .int (nI 31))] [] σ 0 0
      refine x_iload_n dJ20_numberOfTrailingZeros_8 0 rfl rfl ?_
      refine x_if_gt (tgt := 17) dJ20_numberOfTrailingZeros_9 (by decide) (fun _ => ?_) (fun h_ => absurd (by decide) h_)
      refine x_iconst (v := nI 1) dJ20_numberOfTrailingZeros_17 (by decide) ?_
      refine x_istore_n (i := 1) (L' := [(1, .int (nI 1)), (0, .int (nI 31))]) dJ20_numberOfTrailingZeros_18 rfl (by decide) rfl ?_
      refine x_iload_n dJ20_numberOfTrailingZeros_19 1 rfl rfl ?_
      refine x_ldcw (v := nI 65536) dJ20_numberOfTrailingZeros_20 q570 ?_
      refine x_icmp_le (tgt := 34) dJ20_numberOfTrailingZeros_23 (by decide) (fun _ => ?_) (fun h_ => absurd (by decide) h_)
      refine x_iload_n dJ20_numberOfTrailingZeros_34 1 rfl rfl ?_
      refine x_sipush (v := nI 256) dJ20_numberOfTrailingZeros_35 (by decide) ?_
      refine x_icmp_le (tgt := 49) dJ20_numberOfTrailingZeros_38 (by decide) (fun _ => ?_) (fun h_ => absurd (by decide) h_)
      refine x_iload_n dJ20_numberOfTrailingZeros_49 1 rfl rfl ?_
      refine x_bipush (v := nI 16) dJ20_numberOfTrailingZeros_50 (by decide) ?_
      refine x_icmp_le (tgt := 62) dJ20_numberOfTrailingZeros_52 (by decide) (fun h_ => absurd h_ (by decide)) (fun _ => ?_)
      refine x_iinc (i := 1) (q := 0) (v := nI 5) (L' := [(1, .int (nI 5)), (0, .int (nI 31))]) dJ20_numberOfTrailingZeros_55 rfl (by decide) (by decide) rfl ?_
      refine x_iload_n dJ20_numberOfTrailingZeros_58 1 rfl rfl ?_
      refine x_iconst (v := nI 4) dJ20_numberOfTrailingZeros_59 (by decide) ?_
      refine x_iushr (v := nI 1) dJ20_numberOfTrailingZeros_60 (by decide) ?_
      refine x_istore_n (i := 0) (L' := [(0, .int (nI 1)), (1, .int (nI 5))]) dJ20_numberOfTrailingZeros_61 rfl (by decide) rfl ?_
      refine x_iload_n dJ20_numberOfTrailingZeros_62 0 rfl rfl ?_
      refine x_iconst (v := nI 4) dJ20_numberOfTrailingZeros_63 (by decide) ?_
      refine x_icmp_le (tgt := 74) dJ20_numberOfTrailingZeros_64 (by decide) (fun _ => ?_) (fun h_ => absurd (by decide) h_)
      refine x_iload_n dJ20_numberOfTrailingZeros_74 1 rfl rfl ?_
      refine x_iload_n dJ20_numberOfTrailingZeros_75 0 rfl rfl ?_
      refine x_iconst (v := nI 1) dJ20_numberOfTrailingZeros_76 (by decide) ?_
      refine x_iushr (v := nI 0) dJ20_numberOfTrailingZeros_77 (by decide) ?_
      refine x_iadd dJ20_numberOfTrailingZeros_78 ?_
      refine x_top (x' := nI (5 + 0)) (nI_add _ _) ?_
      exact x_iret dJ20_numberOfTrailingZeros_79 rfl (pS' (by decide))
    · show X l yJ20_numberOfTrailingZeros cJ20_numberOfTrailingZeros 2 (some FieldType.int) [] G (yroom 0 0 0) (yEnd G (yroom 0 0 0) (PS σ (nI 6))) 8 [(0, .int (nI 63))] [] σ 0 0
      refine x_iload_n dJ20_numberOfTrailingZeros_8 0 rfl rfl ?_
      refine x_if_gt (tgt := 17) dJ20_numberOfTrailingZeros_9 (by decide) (fun _ => ?_) (fun h_ => absurd (by decide) h_)
      refine x_iconst (v := nI 1) dJ20_numberOfTrailingZeros_17 (by decide) ?_
      refine x_istore_n (i := 1) (L' := [(1, .int (nI 1)), (0, .int (nI 63))]) dJ20_numberOfTrailingZeros_18 rfl (by decide) rfl ?_
      refine x_iload_n dJ20_numberOfTrailingZeros_19 1 rfl rfl ?_
      refine x_ldcw (v := nI 65536) dJ20_numberOfTrailingZeros_20 q570 ?_
      refine x_icmp_le (tgt := 34) dJ20_numberOfTrailingZeros_23 (by decide) (fun _ => ?_) (fun h_ => absurd (by decide) h_)
      refine x_iload_n dJ20_numberOfTrailingZeros_34 1 rfl rfl ?_
      refine x_sipush (v := nI 256) dJ20_numberOfTrailingZeros_35 (by decide) ?_
      refine x_icmp_le (tgt := 49) dJ20_numberOfTrailingZeros_38 (by decide) (fun _ => ?_) (fun h_ => absurd (by decide) h_)
      refine x_iload_n dJ20_numberOfTrailingZeros_49 1 rfl rfl ?_
      refine x_bipush (v := nI 16) dJ20_numberOfTrailingZeros_50 (by decide) ?_
      refine x_icmp_le (tgt := 62) dJ20_numberOfTrailingZeros_52 (by decide) (fun h_ => absurd h_ (by decide)) (fun _ => ?_)
      refine x_iinc (i := 1) (q := 0) (v := nI 5) (L' := [(1, .int (nI 5)), (0, .int (nI 63))]) dJ20_numberOfTrailingZeros_55 rfl (by decide) (by decide) rfl ?_
      refine x_iload_n dJ20_numberOfTrailingZeros_58 1 rfl rfl ?_
      refine x_iconst (v := nI 4) dJ20_numberOfTrailingZeros_59 (by decide) ?_
      refine x_iushr (v := nI 3) dJ20_numberOfTrailingZeros_60 (by decide) ?_
      refine x_istore_n (i := 0) (L' := [(0, .int (nI 3)), (1, .int (nI 5))]) dJ20_numberOfTrailingZeros_61 rfl (by decide) rfl ?_
      refine x_iload_n dJ20_numberOfTrailingZeros_62 0 rfl rfl ?_
      refine x_iconst (v := nI 4) dJ20_numberOfTrailingZeros_63 (by decide) ?_
      refine x_icmp_le (tgt := 74) dJ20_numberOfTrailingZeros_64 (by decide) (fun _ => ?_) (fun h_ => absurd (by decide) h_)
      refine x_iload_n dJ20_numberOfTrailingZeros_74 1 rfl rfl ?_
      refine x_iload_n dJ20_numberOfTrailingZeros_75 0 rfl rfl ?_
      refine x_iconst (v := nI 1) dJ20_numberOfTrailingZeros_76 (by decide) ?_
      refine x_iushr (v := nI 1) dJ20_numberOfTrailingZeros_77 (by decide) ?_
      refine x_iadd dJ20_numberOfTrailingZeros_78 ?_
      refine x_top (x' := nI (5 + 1)) (nI_add _ _) ?_
      exact x_iret dJ20_numberOfTrailingZeros_79 rfl (pS' (by decide))
    · show X l yJ20_numberOfTrailingZeros cJ20_numberOfTrailingZeros 2 (some FieldType.int) [] G (yroom 0 0 0) (yEnd G (yroom 0 0 0) (PS σ (nI 7))) 8 [(0, .int (nI 127))] [] σ 0 0
      refine x_iload_n dJ20_numberOfTrailingZeros_8 0 rfl rfl ?_
      refine x_if_gt (tgt := 17) dJ20_numberOfTrailingZeros_9 (by decide) (fun _ => ?_) (fun h_ => absurd (by decide) h_)
      refine x_iconst (v := nI 1) dJ20_numberOfTrailingZeros_17 (by decide) ?_
      refine x_istore_n (i := 1) (L' := [(1, .int (nI 1)), (0, .int (nI 127))]) dJ20_numberOfTrailingZeros_18 rfl (by decide) rfl ?_
      refine x_iload_n dJ20_numberOfTrailingZeros_19 1 rfl rfl ?_
      refine x_ldcw (v := nI 65536) dJ20_numberOfTrailingZeros_20 q570 ?_
      refine x_icmp_le (tgt := 34) dJ20_numberOfTrailingZeros_23 (by decide) (fun _ => ?_) (fun h_ => absurd (by decide) h_)
      refine x_iload_n dJ20_numberOfTrailingZeros_34 1 rfl rfl ?_
      refine x_sipush (v := nI 256) dJ20_numberOfTrailingZeros_35 (by decide) ?_
      refine x_icmp_le (tgt := 49) dJ20_numberOfTrailingZeros_38 (by decide) (fun _ => ?_) (fun h_ => absurd (by decide) h_)
      refine x_iload_n dJ20_numberOfTrailingZeros_49 1 rfl rfl ?_
      refine x_bipush (v := nI 16) dJ20_numberOfTrailingZeros_50 (by decide) ?_
      refine x_icmp_le (tgt := 62) dJ20_numberOfTrailingZeros_52 (by decide) (fun h_ => absurd h_ (by decide)) (fun _ => ?_)
      refine x_iinc (i := 1) (q := 0) (v := nI 5) (L' := [(1, .int (nI 5)), (0, .int (nI 127))]) dJ20_numberOfTrailingZeros_55 rfl (by decide) (by decide) rfl ?_
      refine x_iload_n dJ20_numberOfTrailingZeros_58 1 rfl rfl ?_
      refine x_iconst (v := nI 4) dJ20_numberOfTrailingZeros_59 (by decide) ?_
      refine x_iushr (v := nI 7) dJ20_numberOfTrailingZeros_60 (by decide) ?_
      refine x_istore_n (i := 0) (L' := [(0, .int (nI 7)), (1, .int (nI 5))]) dJ20_numberOfTrailingZeros_61 rfl (by decide) rfl ?_
      refine x_iload_n dJ20_numberOfTrailingZeros_62 0 rfl rfl ?_
      refine x_iconst (v := nI 4) dJ20_numberOfTrailingZeros_63 (by decide) ?_
      refine x_icmp_le (tgt := 74) dJ20_numberOfTrailingZeros_64 (by decide) (fun h_ => absurd h_ (by decide)) (fun _ => ?_)
      refine x_iinc (i := 1) (q := 1) (v := nI 7) (L' := [(1, .int (nI 7)), (0, .int (nI 7))]) dJ20_numberOfTrailingZeros_67 rfl (by decide) (by decide) rfl ?_
      refine x_iload_n dJ20_numberOfTrailingZeros_70 1 rfl rfl ?_
      refine x_iconst (v := nI 2) dJ20_numberOfTrailingZeros_71 (by decide) ?_
      refine x_iushr (v := nI 1) dJ20_numberOfTrailingZeros_72 (by decide) ?_
      refine x_istore_n (i := 0) (L' := [(0, .int (nI 1)), (1, .int (nI 7))]) dJ20_numberOfTrailingZeros_73 rfl (by decide) rfl ?_
      refine x_iload_n dJ20_numberOfTrailingZeros_74 1 rfl rfl ?_
      refine x_iload_n dJ20_numberOfTrailingZeros_75 0 rfl rfl ?_
      refine x_iconst (v := nI 1) dJ20_numberOfTrailingZeros_76 (by decide) ?_
      refine x_iushr (v := nI 0) dJ20_numberOfTrailingZeros_77 (by decide) ?_
      refine x_iadd dJ20_numberOfTrailingZeros_78 ?_
      refine x_top (x' := nI (7 + 0)) (nI_add _ _) ?_
      exact x_iret dJ20_numberOfTrailingZeros_79 rfl (pS' (by decide))
    · show X l yJ20_numberOfTrailingZeros cJ20_numberOfTrailingZeros 2 (some FieldType.int) [] G (yroom 0 0 0) (yEnd G (yroom 0 0 0) (PS σ (nI 8))) 8 [(0, .int (nI 255))] [] σ 0 0
      refine x_iload_n dJ20_numberOfTrailingZeros_8 0 rfl rfl ?_
      refine x_if_gt (tgt := 17) dJ20_numberOfTrailingZeros_9 (by decide) (fun _ => ?_) (fun h_ => absurd (by decide) h_)
      refine x_iconst (v := nI 1) dJ20_numberOfTrailingZeros_17 (by decide) ?_
      refine x_istore_n (i := 1) (L' := [(1, .int (nI 1)), (0, .int (nI 255))]) dJ20_numberOfTrailingZeros_18 rfl (by decide) rfl ?_
      refine x_iload_n dJ20_numberOfTrailingZeros_19 1 rfl rfl ?_
      refine x_ldcw (v := nI 65536) dJ20_numberOfTrailingZeros_20 q570 ?_
      refine x_icmp_le (tgt := 34) dJ20_numberOfTrailingZeros_23 (by decide) (fun _ => ?_) (fun h_ => absurd (by decide) h_)
      refine x_iload_n dJ20_numberOfTrailingZeros_34 1 rfl rfl ?_
      refine x_sipush (v := nI 256) dJ20_numberOfTrailingZeros_35 (by decide) ?_
      refine x_icmp_le (tgt := 49) dJ20_numberOfTrailingZeros_38 (by decide) (fun _ => ?_) (fun h_ => absurd (by decide) h_)
      refine x_iload_n dJ20_numberOfTrailingZeros_49 1 rfl rfl ?_
      refine x_bipush (v := nI 16) dJ20_numberOfTrailingZeros_50 (by decide) ?_
      refine x_icmp_le (tgt := 62) dJ20_numberOfTrailingZeros_52 (by decide) (fun h_ => absurd h_ (by decide)) (fun _ => ?_)
      refine x_iinc (i := 1) (q := 0) (v := nI 5) (L' := [(1, .int (nI 5)), (0, .int (nI 255))]) dJ20_numberOfTrailingZeros_55 rfl (by decide) (by decide) rfl ?_
      refine x_iload_n dJ20_numberOfTrailingZeros_58 1 rfl rfl ?_
      refine x_iconst (v := nI 4) dJ20_numberOfTrailingZeros_59 (by decide) ?_
      refine x_iushr (v := nI 15) dJ20_numberOfTrailingZeros_60 (by decide) ?_
      refine x_istore_n (i := 0) (L' := [(0, .int (nI 15)), (1, .int (nI 5))]) dJ20_numberOfTrailingZeros_61 rfl (by decide) rfl ?_
      refine x_iload_n dJ20_numberOfTrailingZeros_62 0 rfl rfl ?_
      refine x_iconst (v := nI 4) dJ20_numberOfTrailingZeros_63 (by decide) ?_
      refine x_icmp_le (tgt := 74) dJ20_numberOfTrailingZeros_64 (by decide) (fun h_ => absurd h_ (by decide)) (fun _ => ?_)
      refine x_iinc (i := 1) (q := 1) (v := nI 7) (L' := [(1, .int (nI 7)), (0, .int (nI 15))]) dJ20_numberOfTrailingZeros_67 rfl (by decide) (by decide) rfl ?_
      refine x_iload_n dJ20_numberOfTrailingZeros_70 1 rfl rfl ?_
      refine x_iconst (v := nI 2) dJ20_numberOfTrailingZeros_71 (by decide) ?_
      refine x_iushr (v := nI 3) dJ20_numberOfTrailingZeros_72 (by decide) ?_
      refine x_istore_n (i := 0) (L' := [(0, .int (nI 3)), (1, .int (nI 7))]) dJ20_numberOfTrailingZeros_73 rfl (by decide) rfl ?_
      refine x_iload_n dJ20_numberOfTrailingZeros_74 1 rfl rfl ?_
      refine x_iload_n dJ20_numberOfTrailingZeros_75 0 rfl rfl ?_
      refine x_iconst (v := nI 1) dJ20_numberOfTrailingZeros_76 (by decide) ?_
      refine x_iushr (v := nI 1) dJ20_numberOfTrailingZeros_77 (by decide) ?_
      refine x_iadd dJ20_numberOfTrailingZeros_78 ?_
      refine x_top (x' := nI (7 + 1)) (nI_add _ _) ?_
      exact x_iret dJ20_numberOfTrailingZeros_79 rfl (pS' (by decide))
    · show X l yJ20_numberOfTrailingZeros cJ20_numberOfTrailingZeros 2 (some FieldType.int) [] G (yroom 0 0 0) (yEnd G (yroom 0 0 0) (PS σ (nI 9))) 8 [(0, .int (nI 511))] [] σ 0 0
      refine x_iload_n dJ20_numberOfTrailingZeros_8 0 rfl rfl ?_
      refine x_if_gt (tgt := 17) dJ20_numberOfTrailingZeros_9 (by decide) (fun _ => ?_) (fun h_ => absurd (by decide) h_)
      refine x_iconst (v := nI 1) dJ20_numberOfTrailingZeros_17 (by decide) ?_
      refine x_istore_n (i := 1) (L' := [(1, .int (nI 1)), (0, .int (nI 511))]) dJ20_numberOfTrailingZeros_18 rfl (by decide) rfl ?_
      refine x_iload_n dJ20_numberOfTrailingZeros_19 1 rfl rfl ?_
      refine x_ldcw (v := nI 65536) dJ20_numberOfTrailingZeros_20 q570 ?_
      refine x_icmp_le (tgt := 34) dJ20_numberOfTrailingZeros_23 (by decide) (fun _ => ?_) (fun h_ => absurd (by decide) h_)
      refine x_iload_n dJ20_numberOfTrailingZeros_34 1 rfl rfl ?_
      refine x_sipush (v := nI 256) dJ20_numberOfTrailingZeros_35 (by decide) ?_
      refine x_icmp_le (tgt := 49) dJ20_numberOfTrailingZeros_38 (by decide) (fun h_ => absurd h_ (by decide)) (fun _ => ?_)
      refine x_iinc (i := 1) (q := 0) (v := nI 9) (L' := [(1, .int (nI 9)), (0, .int (nI 511))]) dJ20_numberOfTrailingZeros_41 rfl (by decide) (by decide) rfl ?_
      refine x_iload_n dJ20_numberOfTrailingZeros_44 1 rfl rfl ?_
      refine x_bipush (v := nI 8) dJ20_numberOfTrailingZeros_45 (by decide) ?_
      refine x_iushr (v := nI 1) dJ20_numberOfTrailingZeros_47 (by decide) ?_
      refine x_istore_n (i := 0) (L' := [(0, .int (nI 1)), (1, .int (nI 9))]) dJ20_numberOfTrailingZeros_48 rfl (by decide) rfl ?_
      refine x_iload_n dJ20_numberOfTrailingZeros_49 0 rfl rfl ?_
      refine x_bipush (v := nI 16) dJ20_numberOfTrailingZeros_50 (by decide) ?_
      refine x_icmp_le (tgt := 62) dJ20_numberOfTrailingZeros_52 (by decide) (fun _ => ?_) (fun h_ => absurd (by decide) h_)
      refine x_iload_n dJ20_numberOfTrailingZeros_62 0 rfl rfl ?_
      refine x_iconst (v := nI 4) dJ20_numberOfTrailingZeros_63 (by decide) ?_
      refine x_icmp_le (tgt := 74) dJ20_numberOfTrailingZeros_64 (by decide) (fun _ => ?_) (fun h_ => absurd (by decide) h_)
      refine x_iload_n dJ20_numberOfTrailingZeros_74 1 rfl rfl ?_
      refine x_iload_n dJ20_numberOfTrailingZeros_75 0 rfl rfl ?_
      refine x_iconst (v := nI 1) dJ20_numberOfTrailingZeros_76 (by decide) ?_
      refine x_iushr (v := nI 0) dJ20_numberOfTrailingZeros_77 (by decide) ?_
      refine x_iadd dJ20_numberOfTrailingZeros_78 ?_
      refine x_top (x' := nI (9 + 0)) (nI_add _ _) ?_
      exact x_iret dJ20_numberOfTrailingZeros_79 rfl (pS' (by decide))
    · show X l yJ20_numberOfTrailingZeros cJ20_numberOfTrailingZeros 2 (some FieldType.int) [] G (yroom 0 0 0) (yEnd G (yroom 0 0 0) (PS σ (nI 10))) 8 [(0, .int (nI 1023))] [] σ 0 0
      refine x_iload_n dJ20_numberOfTrailingZeros_8 0 rfl rfl ?_
      refine x_if_gt (tgt := 17) dJ20_numberOfTrailingZeros_9 (by decide) (fun _ => ?_) (fun h_ => absurd (by decide) h_)
      refine x_iconst (v := nI 1) dJ20_numberOfTrailingZeros_17 (by decide) ?_
      refine x_istore_n (i := 1) (L' := [(1, .int (nI 1)), (0, .int (nI 1023))]) dJ20_numberOfTrailingZeros_18 rfl (by decide) rfl ?_
      refine x_iload_n dJ20_numberOfTrailingZeros_19 1 rfl rfl ?_
      refine x_ldcw (v := nI 65536) dJ20_numberOfTrailingZeros_20 q570 ?_
      refine x_icmp_le (tgt := 34) dJ20_numberOfTrailingZeros_23 (by decide) (fun _ => ?_) (fun h_ => absurd (by decide) h_)
      refine x_iload_n dJ20_numberOfTrailingZeros_34 1 rfl rfl ?_
      refine x_sipush (v := nI 256) dJ20_numberOfTrailingZeros_35 (by decide) ?_
      refine x_icmp_le (tgt := 49) dJ20_numberOfTrailingZeros_38 (by decide) (fun h_ => absurd h_ (by decide)) (fun _ => ?_)
      refine x_iinc (i := 1) (q := 0) (v := nI 9) (L' := [(1, .int (nI 9)), (0, .int (nI 1023))]) dJ20_numberOfTrailingZeros_41 rfl (by decide) (by decide) rfl ?_
      refine x_iload_n dJ20_numberOfTrailingZeros_44 1 rfl rfl ?_
      refine x_bipush (v := nI 8) dJ20_numberOfTrailingZeros_45 (by decide) ?_
      refine x_iushr (v := nI 3) dJ20_numberOfTrailingZeros_47 (by decide) ?_
      refine x_istore_n (i := 0) (L' := [(0, .int (nI 3)), (1, .int (nI 9))]) dJ20_numberOfTrailingZeros_48 rfl (by decide) rfl ?_
      refine x_iload_n dJ20_numberOfTrailingZeros_49 0 rfl rfl ?_
      refine x_bipush (v := nI 16) dJ20_numberOfTrailingZeros_50 (by decide) ?_
      refine x_icmp_le (tgt := 62) dJ20_numberOfTrailingZeros_52 (by decide) (fun _ => ?_) (fun h_ => absurd (by decide) h_)
      refine x_iload_n dJ20_numberOfTrailingZeros_62 0 rfl rfl ?_
      refine x_iconst (v := nI 4) dJ20_numberOfTrailingZeros_63 (by decide) ?_
      refine x_icmp_le (tgt := 74) dJ20_numberOfTrailingZeros_64 (by decide) (fun _ => ?_) (fun h_ => absurd (by decide) h_)
      refine x_iload_n dJ20_numberOfTrailingZeros_74 1 rfl rfl ?_
      refine x_iload_n dJ20_numberOfTrailingZeros_75 0 rfl rfl ?_
      refine x_iconst (v := nI 1) dJ20_numberOfTrailingZeros_76 (by decide) ?_
      refine x_iushr (v := nI 1) dJ20_numberOfTrailingZeros_77 (by decide) ?_
      refine x_iadd dJ20_numberOfTrailingZeros_78 ?_
      refine x_top (x' := nI (9 + 1)) (nI_add _ _) ?_
      exact x_iret dJ20_numberOfTrailingZeros_79 rfl (pS' (by decide))
    · show X l yJ20_numberOfTrailingZeros cJ20_numberOfTrailingZeros 2 (some FieldType.int) [] G (yroom 0 0 0) (yEnd G (yroom 0 0 0) (PS σ (nI 11))) 8 [(0, .int (nI 2047))] [] σ 0 0
      refine x_iload_n dJ20_numberOfTrailingZeros_8 0 rfl rfl ?_
      refine x_if_gt (tgt := 17) dJ20_numberOfTrailingZeros_9 (by decide) (fun _ => ?_) (fun h_ => absurd (by decide) h_)
      refine x_iconst (v := nI 1) dJ20_numberOfTrailingZeros_17 (by decide) ?_
      refine x_istore_n (i := 1) (L' := [(1, .int (nI 1)), (0, .int (nI 2047))]) dJ20_numberOfTrailingZeros_18 rfl (by decide) rfl ?_
      refine x_iload_n dJ20_numberOfTrailingZeros_19 1 rfl rfl ?_
      refine x_ldcw (v := nI 65536) dJ20_numberOfTrailingZeros_20 q570 ?_
      refine x_icmp_le (tgt := 34) dJ20_numberOfTrailingZeros_23 (by decide) (fun _ => ?_) (fun h_ => absurd (by decide) h_)
      refine x_iload_n dJ20_numberOfTrailingZeros_34 1 rfl rfl ?_
      refine x_sipush (v := nI 256) dJ20_numberOfTrailingZeros_35 (by decide) ?_
      refine x_icmp_le (tgt := 49) dJ20_numberOfTrailingZeros_38 (by decide) (fun h_ => absurd h_ (by decide)) (fun _ => ?_)
      refine x_iinc (i := 1) (q := 0) (v := nI 9) (L' := [(1, .int (nI 9)), (0, .int (nI 2047))]) dJ20_numberOfTrailingZeros_41 rfl (by decide) (by decide) rfl ?_
      refine x_iload_n dJ20_numberOfTrailingZeros_44 1 rfl rfl ?_
      refine x_bipush (v := nI 8) dJ20_numberOfTrailingZeros_45 (by decide) ?_
      refine x_iushr (v := nI 7) dJ20_numberOfTrailingZeros_47 (by decide) ?_
      refine x_istore_n (i := 0) (L' := [(0, .int (nI 7)), (1, .int (nI 9))]) dJ20_numberOfTrailingZeros_48 rfl (by decide) rfl ?_
      refine x_iload_n dJ20_numberOfTrailingZeros_49 0 rfl rfl ?_
      refine x_bipush (v := nI 16) dJ20_numberOfTrailingZeros_50 (by decide) ?_
      refine x_icmp_le (tgt := 62) dJ20_numberOfTrailingZeros_52 (by decide) (fun _ => ?_) (fun h_ => absurd (by decide) h_)
      refine x_iload_n dJ20_numberOfTrailingZeros_62 0 rfl rfl ?_
      refine x_iconst (v := nI 4) dJ20_numberOfTrailingZeros_63 (by decide) ?_
      refine x_icmp_le (tgt := 74) dJ20_numberOfTrailingZeros_64 (by decide) (fun h_ => absurd h_ (by decide)) (fun _ => ?_)
      refine x_iinc (i := 1) (q := 1) (v := nI 11) (L' := [(1, .int (nI 11)), (0, .int (nI 7))]) dJ20_numberOfTrailingZeros_67 rfl (by decide) (by decide) rfl ?_
      refine x_iload_n dJ20_numberOfTrailingZeros_70 1 rfl rfl ?_
      refine x_iconst (v := nI 2) dJ20_numberOfTrailingZeros_71 (by decide) ?_
      refine x_iushr (v := nI 1) dJ20_numberOfTrailingZeros_72 (by decide) ?_
      refine x_istore_n (i := 0) (L' := [(0, .int (nI 1)), (1, .int (nI 11))]) dJ20_numberOfTrailingZeros_73 rfl (by decide) rfl ?_
      refine x_iload_n dJ20_numberOfTrailingZeros_74 1 rfl rfl ?_
      refine x_iload_n dJ20_numberOfTrailingZeros_75 0 rfl rfl ?_
      refine x_iconst (v := nI 1) dJ20_numberOfTrailingZeros_76 (by decide) ?_
      refine x_iushr (v := nI 0) dJ20_numberOfTrailingZeros_77 (by decide) ?_
      refine x_iadd dJ20_numberOfTrailingZeros_78 ?_
      refine x_top (x' := nI (11 + 0)) (nI_add _ _) ?_
      exact x_iret dJ20_numberOfTrailingZeros_79 rfl (pS' (by decide))
    · show X l yJ20_numberOfTrailingZeros cJ20_numberOfTrailingZeros 2 (some FieldType.int) [] G (yroom 0 0 0) (yEnd G (yroom 0 0 0) (PS σ (nI 12))) 8 [(0, .int (nI 4095))] [] σ 0 0
      refine x_iload_n dJ20_numberOfTrailingZeros_8 0 rfl rfl ?_
      refine x_if_gt (tgt := 17) dJ20_numberOfTrailingZeros_9 (by decide) (fun _ => ?_) (fun h_ => absurd (by decide) h_)
      refine x_iconst (v := nI 1) dJ20_numberOfTrailingZeros_17 (by decide) ?_
      refine x_istore_n (i := 1) (L' := [(1, .int (nI 1)), (0, .int (nI 4095))]) dJ20_numberOfTrailingZeros_18 rfl (by decide) rfl ?_
      refine x_iload_n dJ20_numberOfTrailingZeros_19 1 rfl rfl ?_
      refine x_ldcw (v := nI 65536) dJ20_numberOfTrailingZeros_20 q570 ?_
      refine x_icmp_le (tgt := 34) dJ20_numberOfTrailingZeros_23 (by decide) (fun _ => ?_) (fun h_ => absurd (by decide) h_)
      refine x_iload_n dJ20_numberOfTrailingZeros_34 1 rfl rfl ?_
      refine x_sipush (v := nI 256) dJ20_numberOfTrailingZeros_35 (by decide) ?_
      refine x_icmp_le (tgt := 49) dJ20_numberOfTrailingZeros_38 (by decide) (fun h_ => absurd h_ (by decide)) (fun _ => ?_)
      refine x_iinc (i := 1) (q := 0) (v := nI 9) (L' := [(1, .int (nI 9)), (0, .int (nI 4095))]) dJ20_numberOfTrailingZeros_41 rfl (by decide) (by decide) rfl ?_
      refine x_iload_n dJ20_numberOfTrailingZeros_44 1 rfl rfl ?_
      refine x_bipush (v := nI 8) dJ20_numberOfTrailingZeros_45 (by decide) ?_
      refine x_iushr (v := nI 15) dJ20_numberOfTrailingZeros_47 (by decide) ?_
      refine x_istore_n (i := 0) (L' := [(0, .int (nI 15)), (1, .int (nI 9))]) dJ20_numberOfTrailingZeros_48 rfl (by decide) rfl ?_
      refine x_iload_n dJ20_numberOfTrailingZeros_49 0 rfl rfl ?_
      refine x_bipush (v := nI 16) dJ20_numberOfTrailingZeros_50 (by decide) ?_
      refine x_icmp_le (tgt := 62) dJ20_numberOfTrailingZeros_52 (by decide) (fun _ => ?_) (fun h_ => absurd (by decide) h_)
      refine x_iload_n dJ20_numberOfTrailingZeros_62 0 rfl rfl ?_
      refine x_iconst (v := nI 4) dJ20_numberOfTrailingZeros_63 (by decide) ?_
      refine x_icmp_le (tgt := 74) dJ20_numberOfTrailingZeros_64 (by decide) (fun h_ => absurd h_ (by decide)) (fun _ => ?_)
      refine x_iinc (i := 1) (q := 1) (v := nI 11) (L' := [(1, .int (nI 11)), (0, .int (nI 15))]) dJ20_numberOfTrailingZeros_67 rfl (by decide) (by decide) rfl ?_
      refine x_iload_n dJ20_numberOfTrailingZeros_70 1 rfl rfl ?_
      refine x_iconst (v := nI 2) dJ20_numberOfTrailingZeros_71 (by decide) ?_
      refine x_iushr (v := nI 3) dJ20_numberOfTrailingZeros_72 (by decide) ?_
      refine x_istore_n (i := 0) (L' := [(0, .int (nI 3)), (1, .int (nI 11))]) dJ20_numberOfTrailingZeros_73 rfl (by decide) rfl ?_
      refine x_iload_n dJ20_numberOfTrailingZeros_74 1 rfl rfl ?_
      refine x_iload_n dJ20_numberOfTrailingZeros_75 0 rfl rfl ?_
      refine x_iconst (v := nI 1) dJ20_numberOfTrailingZeros_76 (by decide) ?_
      refine x_iushr (v := nI 1) dJ20_numberOfTrailingZeros_77 (by decide) ?_
      refine x_iadd dJ20_numberOfTrailingZeros_78 ?_
      refine x_top (x' := nI (11 + 1)) (nI_add _ _) ?_
      exact x_iret dJ20_numberOfTrailingZeros_79 rfl (pS' (by decide))
    · show X l yJ20_numberOfTrailingZeros cJ20_numberOfTrailingZeros 2 (some FieldType.int) [] G (yroom 0 0 0) (yEnd G (yroom 0 0 0) (PS σ (nI 13))) 8 [(0, .int (nI 8191))] [] σ 0 0
      refine x_iload_n dJ20_numberOfTrailingZeros_8 0 rfl rfl ?_
      refine x_if_gt (tgt := 17) dJ20_numberOfTrailingZeros_9 (by decide) (fun _ => ?_) (fun h_ => absurd (by decide) h_)
      refine x_iconst (v := nI 1) dJ20_numberOfTrailingZeros_17 (by decide) ?_
      refine x_istore_n (i := 1) (L' := [(1, .int (nI 1)), (0, .int (nI 8191))]) dJ20_numberOfTrailingZeros_18 rfl (by decide) rfl ?_
      refine x_iload_n dJ20_numberOfTrailingZeros_19 1 rfl rfl ?_
      refine x_ldcw (v := nI 65536) dJ20_numberOfTrailingZeros_20 q570 ?_
      refine x_icmp_le (tgt := 34) dJ20_numberOfTrailingZeros_23 (by decide) (fun _ => ?_) (fun h_ => absurd (by decide) h_)
      refine x_iload_n dJ20_numberOfTrailingZeros_34 1 rfl rfl ?_
      refine x_sipush (v := nI 256) dJ20_numberOfTrailingZeros_35 (by decide) ?_
      refine x_icmp_le (tgt := 49) dJ20_numberOfTrailingZeros_38 (by decide) (fun h_ => absurd h_ (by decide)) (fun _ => ?_)
      refine x_iinc (i := 1) (q := 0) (v := nI 9) (L' := [(1, .int (nI 9)), (0, .int (nI 8191))]) dJ20_numberOfTrailingZeros_41 rfl (by decide) (by decide) rfl ?_
      refine x_iload_n dJ20_numberOfTrailingZeros_44 1 rfl rfl ?_
      refine x_bipush (v := nI 8) dJ20_numberOfTrailingZeros_45 (by decide) ?_
      refine x_iushr (v := nI 31) dJ20_numberOfTrailingZeros_47 (by decide) ?_
      refine x_istore_n (i := 0) (L' := [(0, .int (nI 31)), (1, .int (nI 9))]) dJ20_numberOfTrailingZeros_48 rfl (by decide) rfl ?_
      refine x_iload_n dJ20_numberOfTrailingZeros_49 0 rfl rfl ?_
      refine x_bipush (v := nI 16) dJ20_numberOfTrailingZeros_50 (by decide) ?_
      refine x_icmp_le (tgt := 62) dJ20_numberOfTrailingZeros_52 (by decide) (fun h_ => absurd h_ (by decide)) (fun _ => ?_)
      refine x_iinc (i := 1) (q := 1) (v := nI 13) (L' := [(1, .int (nI 13)), (0, .int (nI 31))]) dJ20_numberOfTrailingZeros_55 rfl (by decide) (by decide) rfl ?_
      refine x_iload_n dJ20_numberOfTrailingZeros_58 1 rfl rfl ?_
      refine x_iconst (v := nI 4) dJ20_numberOfTrailingZeros_59 (by decide) ?_
      refine x_iushr (v := nI 1) dJ20_numberOfTrailingZeros_60 (by decide) ?_
      refine x_istore_n (i := 0) (L' := [(0, .int (nI 1)), (1, .int (nI 13))]) dJ20_numberOfTrailingZeros_61 rfl (by decide) rfl ?_
      refine x_iload_n dJ20_numberOfTrailingZeros_62 0 rfl rfl ?_
      refine x_iconst (v := nI 4) dJ20_numberOfTrailingZeros_63 (by decide) ?_
      refine x_icmp_le (tgt := 74) dJ20_numberOfTrailingZeros_64 (by decide) (fun _ => ?_) (fun h_ => absurd (by decide) h_)
      refine x_iload_n dJ20_numberOfTrailingZeros_74 1 rfl rfl ?_
      refine x_iload_n dJ20_numberOfTrailingZeros_75 0 rfl rfl ?_
      refine x_iconst (v := nI 1) dJ20_numberOfTrailingZeros_76 (by decide) ?_
      refine x_iushr (v := nI 0) dJ20_numberOfTrailingZeros_77 (by decide) ?_
      refine x_iadd dJ20_numberOfTrailingZeros_78 ?_
      refine x_top (x' := nI (13 + 0)) (nI_add _ _) ?_
      exact x_iret dJ20_numberOfTrailingZeros_79 rfl (pS' (by decide))
    · show X l yJ20_numberOfTrailingZeros cJ20_numberOfTrailingZeros 2 (some FieldType.int) [] G (yroom 0 0 0) (yEnd G (yroom 0 0 0) (PS σ (nI 14))) 8 [(0, .int (nI 16383))] [] σ 0 0
      refine x_iload_n dJ20_numberOfTrailingZeros_8 0 rfl rfl ?_
      refine x_if_gt (tgt := 17) dJ20_numberOfTrailingZeros_9 (by decide) (fun _ => ?_) (fun h_ => absurd (by decide) h_)
      refine x_iconst (v := nI 1) dJ20_numberOfTrailingZeros_17 (by decide) ?_
      refine x_istore_n (i := 1) (L' := [(1, .int (nI 1)), (0, .int (nI 16383))]) dJ20_numberOfTrailingZeros_18 rfl (by decide) rfl ?_
      refine x_iload_n dJ20_numberOfTrailingZeros_19 1 rfl rfl ?_
      refine x_ldcw (v := nI 65536) dJ20_numberOfTrailingZeros_20 q570 ?_
      refine x_icmp_le (tgt := 34) dJ20_numberOfTrailingZeros_23 (by decide) (fun _ => ?_) (fun h_ => absurd (by decide) h_)
      refine x_iload_n dJ20_numberOfTrailingZeros_34 1 rfl rfl ?_
      refine x_sipush (v := nI 256) dJ20_numberOfTrailingZeros_35 (by decide) ?_
      refine x_icmp_le (tgt := 49) dJ20_numberOfTrailingZeros_38 (by decide) (fun h_ => absurd h_ (by decide)) (fun _ => ?_)
      refine x_iinc (i := 1) (q := 0) (v := nI 9) (L' := [(1, .int (nI 9)), (0, .int (nI 16383))]) dJ20_numberOfTrailingZeros_41 rfl (by decide) (by decide) rfl ?_
      refine x_iload_n dJ20_numberOfTrailingZeros_44 1 rfl rfl ?_
      refine x_bipush (v := nI 8) dJ20_numberOfTrailingZeros_45 (by decide) ?_
      refine x_iushr (v := nI 63) dJ20_numberOfTrailingZeros_47 (by decide) ?_
      refine x_istore_n (i := 0) (L' := [(0, .int (nI 63)), (1, .int (nI 9))]) dJ20_numberOfTrailingZeros_48 rfl (by decide) rfl ?_
      refine x_iload_n dJ20_numberOfTrailingZeros_49 0 rfl rfl ?_
      refine x_bipush (v := nI 16) dJ20_numberOfTrailingZeros_50 (by decide) ?_
      refine x_icmp_le (tgt := 62) dJ20_numberOfTrailingZeros_52 (by decide) (fun h_ => absurd h_ (by decide)) (fun _ => ?_)
      refine x_iinc (i := 1) (q := 1) (v := nI 13) (L' := [(1, .int (nI 13)), (0, .int (nI 63))]) dJ20_numberOfTrailingZeros_55 rfl (by decide) (by decide) rfl ?_
      refine x_iload_n dJ20_numberOfTrailingZeros_58 1 rfl rfl ?_
      refine x_iconst (v := nI 4) dJ20_numberOfTrailingZeros_59 (by decide) ?_
      refine x_iushr (v := nI 3) dJ20_numberOfTrailingZeros_60 (by decide) ?_
      refine x_istore_n (i := 0) (L' := [(0, .int (nI 3)), (1, .int (nI 13))]) dJ20_numberOfTrailingZeros_61 rfl (by decide) rfl ?_
      refine x_iload_n dJ20_numberOfTrailingZeros_62 0 rfl rfl ?_
      refine x_iconst (v := nI 4) dJ20_numberOfTrailingZeros_63 (by decide) ?_
      refine x_icmp_le (tgt := 74) dJ20_numberOfTrailingZeros_64 (by decide) (fun _ => ?_) (fun h_ => absurd (by decide) h_)
      refine x_iload_n dJ20_numberOfTrailingZeros_74 1 rfl rfl ?_
      refine x_iload_n dJ20_numberOfTrailingZeros_75 0 rfl rfl ?_
      refine x_iconst (v := nI 1) dJ20_numberOfTrailingZeros_76 (by decide) ?_
      refine x_iushr (v := nI 1) dJ20_numberOfTrailingZeros_77 (by decide) ?_
      refine x_iadd dJ20_numberOfTrailingZeros_78 ?_
      refine x_top (x' := nI (13 + 1)) (nI_add _ _) ?_
      exact x_iret dJ20_numberOfTrailingZeros_79 rfl (pS' (by decide))
    · show X l yJ20_numberOfTrailingZeros cJ20_numberOfTrailingZeros 2 (some FieldType.int) [] G (yroom 0 0 0) (yEnd G (yroom 0 0 0) (PS σ (nI 15))) 8 [(0, .int (nI 32767))] [] σ 0 0
      refine x_iload_n dJ20_numberOfTrailingZeros_8 0 rfl rfl ?_
      refine x_if_gt (tgt := 17) dJ20_numberOfTrailingZeros_9 (by decide) (fun _ => ?_) (fun h_ => absurd (by decide) h_)
      refine x_iconst (v := nI 1) dJ20_numberOfTrailingZeros_17 (by decide) ?_
      refine x_istore_n (i := 1) (L' := [(1, .int (nI 1)), (0, .int (nI 32767))]) dJ20_numberOfTrailingZeros_18 rfl (by decide) rfl ?_
      refine x_iload_n dJ20_numberOfTrailingZeros_19 1 rfl rfl ?_
      refine x_ldcw (v := nI 65536) dJ20_numberOfTrailingZeros_20 q570 ?_
      refine x_icmp_le (tgt := 34) dJ20_numberOfTrailingZeros_23 (by decide) (fun _ => ?_) (fun h_ => absurd (by decide) h_)
      refine x_iload_n dJ20_numberOfTrailingZeros_34 1 rfl rfl ?_
      refine x_sipush (v := nI 256) dJ20_numberOfTrailingZeros_35 (by decide) ?_
      refine x_icmp_le (tgt := 49) dJ20_numberOfTrailingZeros_38 (by decide) (fun h_ => absurd h_ (by decide)) (fun _ => ?_)
      refine x_iinc (i := 1) (q := 0) (v := nI 9) (L' := [(1, .int (nI 9)), (0, .int (nI 32767))]) dJ20_numberOfTrailingZeros_41 rfl (by decide) (by decide) rfl ?_
      refine x_iload_n dJ20_numberOfTrailingZeros_44 1 rfl rfl ?_
      refine x_bipush (v := nI 8) dJ20_numberOfTrailingZeros_45 (by decide) ?_
      refine x_iushr (v := nI 127) dJ20_numberOfTrailingZeros_47 (by decide) ?_
      refine x_istore_n (i := 0) (L' := [(0, .int (nI 127)), (1, .int (nI 9))]) dJ20_numberOfTrailingZeros_48 rfl (by decide) rfl ?_
      refine x_iload_n dJ20_numberOfTrailingZeros_49 0 rfl rfl ?_
      refine x_bipush (v := nI 16) dJ20_numberOfTrailingZeros_50 (by decide) ?_
      refine x_icmp_le (tgt := 62) dJ20_numberOfTrailingZeros_52 (by decide) (fun h_ => absurd h_ (by decide)) (fun _ => ?_)
      refine x_iinc (i := 1) (q := 1) (v := nI 13) (L' := [(1, .int (nI 13)), (0, .int (nI 127))]) dJ20_numberOfTrailingZeros_55 rfl (by decide) (by decide) rfl ?_
      refine x_iload_n dJ20_numberOfTrailingZeros_58 1 rfl rfl ?_
      refine x_iconst (v := nI 4) dJ20_numberOfTrailingZeros_59 (by decide) ?_
      refine x_iushr (v := nI 7) dJ20_numberOfTrailingZeros_60 (by decide) ?_
      refine x_istore_n (i := 0) (L' := [(0, .int (nI 7)), (1, .int (nI 13))]) dJ20_numberOfTrailingZeros_61 rfl (by decide) rfl ?_
      refine x_iload_n dJ20_numberOfTrailingZeros_62 0 rfl rfl ?_
      refine x_iconst (v := nI 4) dJ20_numberOfTrailingZeros_63 (by decide) ?_
      refine x_icmp_le (tgt := 74) dJ20_numberOfTrailingZeros_64 (by decide) (fun h_ => absurd h_ (by decide)) (fun _ => ?_)
      refine x_iinc (i := 1) (q := 1) (v := nI 15) (L' := [(1, .int (nI 15)), (0, .int (nI 7))]) dJ20_numberOfTrailingZeros_67 rfl (by decide) (by decide) rfl ?_
      refine x_iload_n dJ20_numberOfTrailingZeros_70 1 rfl rfl ?_
      refine x_iconst (v := nI 2) dJ20_numberOfTrailingZeros_71 (by decide) ?_
      refine x_iushr (v := nI 1) dJ20_numberOfTrailingZeros_72 (by decide) ?_
      refine x_istore_n (i := 0) (L' := [(0, .int (nI 1)), (1, .int (nI 15))]) dJ20_numberOfTrailingZeros_73 rfl (by decide) rfl ?_
      refine x_iload_n dJ20_numberOfTrailingZeros_74 1 rfl rfl ?_
      refine x_iload_n dJ20_numberOfTrailingZeros_75 0 rfl rfl ?_
      refine x_iconst (v := nI 1) dJ20_numberOfTrailingZeros_76 (by decide) ?_
      refine x_iushr (v := nI 0) dJ20_numberOfTrailingZeros_77 (by decide) ?_
      refine x_iadd dJ20_numberOfTrailingZeros_78 ?_
      refine x_top (x' := nI (15 + 0)) (nI_add _ _) ?_
      exact x_iret dJ20_numberOfTrailingZeros_79 rfl (pS' (by decide))
    · show X l yJ20_numberOfTrailingZeros cJ20_numberOfTrailingZeros 2 (some FieldType.int) [] G (yroom 0 0 0) (yEnd G (yroom 0 0 0) (PS σ (nI 16))) 8 [(0, .int (nI 65535))] [] σ 0 0
      refine x_iload_n dJ20_numberOfTrailingZeros_8 0 rfl rfl ?_
      refine x_if_gt (tgt := 17) dJ20_numberOfTrailingZeros_9 (by decide) (fun _ => ?_) (fun h_ => absurd (by decide) h_)
      refine x_iconst (v := nI 1) dJ20_numberOfTrailingZeros_17 (by decide) ?_
      refine x_istore_n (i := 1) (L' := [(1, .int (nI 1)), (0, .int (nI 65535))]) dJ20_numberOfTrailingZeros_18 rfl (by decide) rfl ?_
      refine x_iload_n dJ20_numberOfTrailingZeros_19 1 rfl rfl ?_
      refine x_ldcw (v := nI 65536) dJ20_numberOfTrailingZeros_20 q570 ?_
      refine x_icmp_le (tgt := 34) dJ20_numberOfTrailingZeros_23 (by decide) (fun _ => ?_) (fun h_ => absurd (by decide) h_)
      refine x_iload_n dJ20_numberOfTrailingZeros_34 1 rfl rfl ?_
      refine x_sipush (v := nI 256) dJ20_numberOfTrailingZeros_35 (by decide) ?_
      refine x_icmp_le (tgt := 49) dJ20_numberOfTrailingZeros_38 (by decide) (fun h_ => absurd h_ (by decide)) (fun _ => ?_)
      refine x_iinc (i := 1) (q := 0) (v := nI 9) (L' := [(1, .int (nI 9)), (0, .int (nI 65535))]) dJ20_numberOfTrailingZeros_41 rfl (by decide) (by decide) rfl ?_
      refine x_iload_n dJ20_numberOfTrailingZeros_44 1 rfl rfl ?_
      refine x_bipush (v := nI 8) dJ20_numberOfTrailingZeros_45 (by decide) ?_
      refine x_iushr (v := nI 255) dJ20_numberOfTrailingZeros_47 (by decide) ?_
      refine x_istore_n (i := 0) (L' := [(0, .int (nI 255)), (1, .int (nI 9))]) dJ20_numberOfTrailingZeros_48 rfl (by decide) rfl ?_
      refine x_iload_n dJ20_numberOfTrailingZeros_49 0 rfl rfl ?_
      refine x_bipush (v := nI 16) dJ20_numberOfTrailingZeros_50 (by decide) ?_
      refine x_icmp_le (tgt := 62) dJ20_numberOfTrailingZeros_52 (by decide) (fun h_ => absurd h_ (by decide)) (fun _ => ?_)
      refine x_iinc (i := 1) (q := 1) (v := nI 13) (L' := [(1, .int (nI 13)), (0, .int (nI 255))]) dJ20_numberOfTrailingZeros_55 rfl (by decide) (by decide) rfl ?_
      refine x_iload_n dJ20_numberOfTrailingZeros_58 1 rfl rfl ?_
      refine x_iconst (v := nI 4) dJ20_numberOfTrailingZeros_59 (by decide) ?_
      refine x_iushr (v := nI 15) dJ20_numberOfTrailingZeros_60 (by decide) ?_
      refine x_istore_n (i := 0) (L' := [(0, .int (nI 15)), (1, .int (nI 13))]) dJ20_numberOfTrailingZeros_61 rfl (by decide) rfl ?_
      refine x_iload_n dJ20_numberOfTrailingZeros_62 0 rfl rfl ?_
      refine x_iconst (v := nI 4) dJ20_numberOfTrailingZeros_63 (by decide) ?_
      refine x_icmp_le (tgt := 74) dJ20_numberOfTrailingZeros_64 (by decide) (fun h_ => absurd h_ (by decide)) (fun _ => ?_)
      refine x_iinc (i := 1) (q := 1) (v := nI 15) (L' := [(1, .int (nI 15)), (0, .int (nI 15))]) dJ20_numberOfTrailingZeros_67 rfl (by decide) (by decide) rfl ?_
      refine x_iload_n dJ20_numberOfTrailingZeros_70 1 rfl rfl ?_
      refine x_iconst (v := nI 2) dJ20_numberOfTrailingZeros_71 (by decide) ?_
      refine x_iushr (v := nI 3) dJ20_numberOfTrailingZeros_72 (by decide) ?_
      refine x_istore_n (i := 0) (L' := [(0, .int (nI 3)), (1, .int (nI 15))]) dJ20_numberOfTrailingZeros_73 rfl (by decide) rfl ?_
      refine x_iload_n dJ20_numberOfTrailingZeros_74 1 rfl rfl ?_
      refine x_iload_n dJ20_numberOfTrailingZeros_75 0 rfl rfl ?_
      refine x_iconst (v := nI 1) dJ20_numberOfTrailingZeros_76 (by decide) ?_
      refine x_iushr (v := nI 1) dJ20_numberOfTrailingZeros_77 (by decide) ?_
      refine x_iadd dJ20_numberOfTrailingZeros_78 ?_
      refine x_top (x' := nI (15 + 1)) (nI_add _ _) ?_
      exact x_iret dJ20_numberOfTrailingZeros_79 rfl (pS' (by decide))
    · show X l yJ20_numberOfTrailingZeros cJ20_numberOfTrailingZeros 2 (some FieldType.int) [] G (yroom 0 0 0) (yEnd G (yroom 0 0 0) (PS σ (nI 17))) 8 [(0, .int (nI 131071))] [] σ 0 0
      refine x_iload_n dJ20_numberOfTrailingZeros_8 0 rfl rfl ?_
      refine x_if_gt (tgt := 17) dJ20_numberOfTrailingZeros_9 (by decide) (fun _ => ?_) (fun h_ => absurd (by decide) h_)
      refine x_iconst (v := nI 1) dJ20_numberOfTrailingZeros_17 (by decide) ?_
      refine x_istore_n (i := 1) (L' := [(1, .int (nI 1)), (0, .int (nI 131071))]) dJ20_numberOfTrailingZeros_18 rfl (by decide) rfl ?_
      refine x_iload_n dJ20_numberOfTrailingZeros_19 1 rfl rfl ?_
      refine x_ldcw (v := nI 65536) dJ20_numberOfTrailingZeros_20 q570 ?_
      refine x_icmp_le (tgt := 34) dJ20_numberOfTrailingZeros_23 (by decide) (fun h_ => absurd h_ (by decide)) (fun _ => ?_)
      refine x_iinc (i := 1) (q := 0) (v := nI 17) (L' := [(1, .int (nI 17)), (0, .int (nI 131071))]) dJ20_numberOfTrailingZeros_26 rfl (by decide) (by decide) rfl ?_
      refine x_iload_n dJ20_numberOfTrailingZeros_29 1 rfl rfl ?_
      refine x_bipush (v := nI 16) dJ20_numberOfTrailingZeros_30 (by decide) ?_
      refine x_iushr (v := nI 1) dJ20_numberOfTrailingZeros_32 (by decide) ?_
      refine x_istore_n (i := 0) (L' := [(0, .int (nI 1)), (1, .int (nI 17))]) dJ20_numberOfTrailingZeros_33 rfl (by decide) rfl ?_
      refine x_iload_n dJ20_numberOfTrailingZeros_34 0 rfl rfl ?_
      refine x_sipush (v := nI 256) dJ20_numberOfTrailingZeros_35 (by decide) ?_
      refine x_icmp_le (tgt := 49) dJ20_numberOfTrailingZeros_38 (by decide) (fun _ => ?_) (fun h_ => absurd (by decide) h_)
      refine x_iload_n dJ20_numberOfTrailingZeros_49 0 rfl rfl ?_
      refine x_bipush (v := nI 16) dJ20_numberOfTrailingZeros_50 (by decide) ?_
      refine x_icmp_le (tgt := 62) dJ20_numberOfTrailingZeros_52 (by decide) (fun _ => ?_) (fun h_ => absurd (by decide) h_)
      refine x_iload_n dJ20_numberOfTrailingZeros_62 0 rfl rfl ?_
      refine x_iconst (v := nI 4) dJ20_numberOfTrailingZeros_63 (by decide) ?_
      refine x_icmp_le (tgt := 74) dJ20_numberOfTrailingZeros_64 (by decide) (fun _ => ?_) (fun h_ => absurd (by decide) h_)
      refine x_iload_n dJ20_numberOfTrailingZeros_74 1 rfl rfl ?_
      refine x_iload_n dJ20_numberOfTrailingZeros_75 0 rfl rfl ?_
      refine x_iconst (v := nI 1) dJ20_numberOfTrailingZeros_76 (by decide) ?_
      refine x_iushr (v := nI 0) dJ20_numberOfTrailingZeros_77 (by decide) ?_
      refine x_iadd dJ20_numberOfTrailingZeros_78 ?_
      refine x_top (x' := nI (17 + 0)) (nI_add _ _) ?_
      exact x_iret dJ20_numberOfTrailingZeros_79 rfl (pS' (by decide))
    · show X l yJ20_numberOfTrailingZeros cJ20_numberOfTrailingZeros 2 (some FieldType.int) [] G (yroom 0 0 0) (yEnd G (yroom 0 0 0) (PS σ (nI 18))) 8 [(0, .int (nI 262143))] [] σ 0 0
      refine x_iload_n dJ20_numberOfTrailingZeros_8 0 rfl rfl ?_
      refine x_if_gt (tgt := 17) dJ20_numberOfTrailingZeros_9 (by decide) (fun _ => ?_) (fun h_ => absurd (by decide) h_)
      refine x_iconst (v := nI 1) dJ20_numberOfTrailingZeros_17 (by decide) ?_
      refine x_istore_n (i := 1) (L' := [(1, .int (nI 1)), (0, .int (nI 262143))]) dJ20_numberOfTrailingZeros_18 rfl (by decide) rfl ?_
      refine x_iload_n dJ20_numberOfTrailingZeros_19 1 rfl rfl ?_
      refine x_ldcw (v := nI 65536) dJ20_numberOfTrailingZeros_20 q570 ?_
      refine x_icmp_le (tgt := 34) dJ20_numberOfTrailingZeros_23 (by decide) (fun h_ => absurd h_ (by decide)) (fun _ => ?_)
      refine x_iinc (i := 1) (q := 0) (v := nI 17) (L' := [(1, .int (nI 17)), (0, .int (nI 262143))]) dJ20_numberOfTrailingZeros_26 rfl (by decide) (by decide) rfl ?_
      refine x_iload_n dJ20_numberOfTrailingZeros_29 1 rfl rfl ?_
      refine x_bipush (v := nI 16) dJ20_numberOfTrailingZeros_30 (by decide) ?_
      refine x_iushr (v := nI 3) dJ20_numberOfTrailingZeros_32 (by decide) ?_
      refine x_istore_n (i := 0) (L' := [(0, .int (nI 3)), (1, .int (nI 17))]) dJ20_numberOfTrailingZeros_33 rfl (by decide) rfl ?_
      refine x_iload_n dJ20_numberOfTrailingZeros_34 0 rfl rfl ?_
      refine x_sipush (v := nI 256) dJ20_numberOfTrailingZeros_35 (by decide) ?_
      refine x_icmp_le (tgt := 49) dJ20_numberOfTrailingZeros_38 (by decide) (fun _ => ?_) (fun h_ => absurd (by decide) h_)
      refine x_iload_n dJ20_numberOfTrailingZeros_49 0 rfl rfl ?_
      refine x_bipush (v := nI 16) dJ20_numberOfTrailingZeros_50 (by decide) ?_
      refine x_icmp_le (tgt := 62) dJ20_numberOfTrailingZeros_52 (by decide) (fun _ => ?_) (fun h_ => absurd (by decide) h_)
      refine x_iload_n dJ20_numberOfTrailingZeros_62 0 rfl rfl ?_
      refine x_iconst (v := nI 4) dJ20_numberOfTrailingZeros_63 (by decide) ?_
      refine x_icmp_le (tgt := 74) dJ20_numberOfTrailingZeros_64 (by decide) (fun _ => ?_) (fun h_ => absurd (by decide) h_)
      refine x_iload_n dJ20_numberOfTrailingZeros_74 1 rfl rfl ?_
      refine x_iload_n dJ20_numberOfTrailingZeros_75 0 rfl rfl ?_
      refine x_iconst (v := nI 1) dJ20_numberOfTrailingZeros_76 (by decide) ?_
      refine x_iushr (v := nI 1) dJ20_numberOfTrailingZeros_77 (by decide) ?_
      refine x_iadd dJ20_numberOfTrailingZeros_78 ?_
      refine x_top (x' := nI (17 + 1)) (nI_add _ _) ?_
      exact x_iret dJ20_numberOfTrailingZeros_79 rfl (pS' (by decide))
    · show X l yJ20_numberOfTrailingZeros cJ20_numberOfTrailingZeros 2 (some FieldType.int) [] G (yroom 0 0 0) (yEnd G (yroom 0 0 0) (PS σ (nI 19))) 8 [(0, .int (nI 524287))] [] σ 0 0
      refine x_iload_n dJ20_numberOfTrailingZeros_8 0 rfl rfl ?_
      refine x_if_gt (tgt := 17) dJ20_numberOfTrailingZeros_9 (by decide) (fun _ => ?_) (fun h_ => absurd (by decide) h_)
      refine x_iconst (v := nI 1) dJ20_numberOfTrailingZeros_17 (by decide) ?_
      refine x_istore_n (i := 1) (L' := [(1, .int (nI 1)), (0, .int (nI 524287))]) dJ20_numberOfTrailingZeros_18 rfl (by decide) rfl ?_
      refine x_iload_n dJ20_numberOfTrailingZeros_19 1 rfl rfl ?_
      refine x_ldcw (v := nI 65536) dJ20_numberOfTrailingZeros_20 q570 ?_
      refine x_icmp_le (tgt := 34) dJ20_numberOfTrailingZeros_23 (by decide) (fun h_ => absurd h_ (by decide)) (fun _ => ?_)
      refine x_iinc (i := 1) (q := 0) (v := nI 17) (L' := [(1, .int (nI 17)), (0, .int (nI 524287))]) dJ20_numberOfTrailingZeros_26 rfl (by decide) (by decide) rfl ?_
      refine x_iload_n dJ20_numberOfTrailingZeros_29 1 rfl rfl ?_
      refine x_bipush (v := nI 16) dJ20_numberOfTrailingZeros_30 (by decide) ?_
      refine x_iushr (v := nI 7) dJ20_numberOfTrailingZeros_32 (by decide) ?_
      refine x_istore_n (i := 0) (L' := [(0, .int (nI 7)), (1, .int (nI 17))]) dJ20_numberOfTrailingZeros_33 rfl (by decide) rfl ?_
      refine x_iload_n dJ20_numberOfTrailingZeros_34 0 rfl rfl ?_
      refine x_sipush (v := nI 256) dJ20_numberOfTrailingZeros_35 (by decide) ?_
      refine x_icmp_le (tgt := 49) dJ20_numberOfTrailingZeros_38 (by decide) (fun _ => ?_) (fun h_ => absurd (by decide) h_)
      refine x_iload_n dJ20_numberOfTrailingZeros_49 0 rfl rfl ?_
      refine x_bipush (v := nI 16) dJ20_numberOfTrailingZeros_50 (by decide) ?_
      refine x_icmp_le (tgt := 62) dJ20_numberOfTrailingZeros_52 (by decide) (fun _ => ?_) (fun h_ => absurd (by decide) h_)
      refine x_iload_n dJ20_numberOfTrailingZeros_62 0 rfl rfl ?_
      refine x_iconst (v := nI 4) dJ20_numberOfTrailingZeros_63 (by decide) ?_
      refine x_icmp_le (tgt := 74) dJ20_numberOfTrailingZeros_64 (by decide) (fun h_ => absurd h_ (by decide)) (fun _ => ?_)
      refine x_iinc (i := 1) (q := 1) (v := nI 19) (L' := [(1, .int (nI 19)), (0, .int (nI 7))]) dJ20_numberOfTrailingZeros_67 rfl (by decide) (by decide) rfl ?_
      refine x_iload_n dJ20_numberOfTrailingZeros_70 1 rfl rfl ?_
      refine x_iconst (v := nI 2) dJ20_numberOfTrailingZeros_71 (by decide) ?_
      refine x_iushr (v := nI 1) dJ20_numberOfTrailingZeros_72 (by decide) ?_
      refine x_istore_n (i := 0) (L' := [(0, .int (nI 1)), (1, .int (nI 19))]) dJ20_numberOfTrailingZeros_73 rfl (by decide) rfl ?_
      refine x_iload_n dJ20_numberOfTrailingZeros_74 1 rfl rfl ?_
      refine x_iload_n dJ20_numberOfTrailingZeros_75 0 rfl rfl ?_
      refine x_iconst (v := nI 1) dJ20_numberOfTrailingZeros_76 (by decide) ?_
      refine x_iushr (v := nI 0) dJ20_numberOfTrailingZeros_77 (by decide) ?_
      refine x_iadd dJ20_numberOfTrailingZeros_78 ?_
      refine x_top (x' := nI (19 + 0)) (nI_add _ _) ?_
      exact x_iret dJ20_numberOfTrailingZeros_79 rfl (pS' (by decide))
    · show X l yJ20_numberOfTrailingZeros cJ20_numberOfTrailingZeros 2 (some FieldType.int) [] G (yroom 0 0 0) (yEnd G (yroom 0 0 0) (PS σ (nI 20))) 8 [(0, .int (nI 1048575))] [] σ 0 0
      refine x_iload_n dJ20_numberOfTrailingZeros_8 0 rfl rfl ?_
      refine x_if_gt (tgt := 17) dJ20_numberOfTrailingZeros_9 (by decide) (fun _ => ?_) (fun h_ => absurd (by decide) h_)
      refine x_iconst (v := nI 1) dJ20_numberOfTrailingZeros_17 (by decide) ?_
      refine x_istore_n (i := 1) (L' := [(1, .int (nI 1)), (0, .int (nI 1048575))]) dJ20_numberOfTrailingZeros_18 rfl (by decide) rfl ?_
      refine x_iload_n dJ20_numberOfTrailingZeros_19 1 rfl rfl ?_
      refine x_ldcw (v := nI 65536) dJ20_numberOfTrailingZeros_20 q570 ?_
      refine x_icmp_le (tgt := 34) dJ20_numberOfTrailingZeros_23 (by decide) (fun h_ => absurd h_ (by decide)) (fun _ => ?_)
      refine x_iinc (i := 1) (q := 0) (v := nI 17) (L' := [(1, .int (nI 17)), (0, .int (nI 1048575))]) dJ20_numberOfTrailingZeros_26 rfl (by decide) (by decide) rfl ?_
      refine x_iload_n dJ20_numberOfTrailingZeros_29 1 rfl rfl ?_
      refine x_bipush (v := nI 16) dJ20_numberOfTrailingZeros_30 (by decide) ?_
      refine x_iushr (v := nI 15) dJ20_numberOfTrailingZeros_32 (by decide) ?_
      refine x_istore_n (i := 0) (L' := [(0, .int (nI 15)), (1, .int (nI 17))]) dJ20_numberOfTrailingZeros_33 rfl (by decide) rfl ?_
      refine x_iload_n dJ20_numberOfTrailingZeros_34 0 rfl rfl ?_
      refine x_sipush (v := nI 256) dJ20_numberOfTrailingZeros_35 (by decide) ?_
      refine x_icmp_le (tgt := 49) dJ20_numberOfTrailingZeros_38 (by decide) (fun _ => ?_) (fun h_ => absurd (by decide) h_)
      refine x_iload_n dJ20_numberOfTrailingZeros_49 0 rfl rfl ?_
      refine x_bipush (v := nI 16) dJ20_numberOfTrailingZeros_50 (by decide) ?_
      refine x_icmp_le (tgt := 62) dJ20_numberOfTrailingZeros_52 (by decide) (fun _ => ?_) (fun h_ => absurd (by decide) h_)
      refine x_iload_n dJ20_numberOfTrailingZeros_62 0 rfl rfl ?_
      refine x_iconst (v := nI 4) dJ20_numberOfTrailingZeros_63 (by decide) ?_
      refine x_icmp_le (tgt := 74) dJ20_numberOfTrailingZeros_64 (by decide) (fun h_ => absurd h_ (by decide)) (fun _ => ?_)
      refine x_iinc (i := 1) (q := 1) (v := nI 19) (L' := [(1, .int (nI 19)), (0, .int (nI 15))]) dJ20_numberOfTrailingZeros_67 rfl (by decide) (by decide) rfl ?_
      refine x_iload_n dJ20_numberOfTrailingZeros_70 1 rfl rfl ?_
      refine x_iconst (v := nI 2) dJ20_numberOfTrailingZeros_71 (by decide) ?_
      refine x_iushr (v := nI 3) dJ20_numberOfTrailingZeros_72 (by decide) ?_
      refine x_istore_n (i := 0) (L' := [(0, .int (nI 3)), (1, .int (nI 19))]) dJ20_numberOfTrailingZeros_73 rfl (by decide) rfl ?_
      refine x_iload_n dJ20_numberOfTrailingZeros_74 1 rfl rfl ?_
      refine x_iload_n dJ20_numberOfTrailingZeros_75 0 rfl rfl ?_
      refine x_iconst (v := nI 1) dJ20_numberOfTrailingZeros_76 (by decide) ?_
      refine x_iushr (v := nI 1) dJ20_numberOfTrailingZeros_77 (by decide) ?_
      refine x_iadd dJ20_numberOfTrailingZeros_78 ?_
      refine x_top (x' := nI (19 + 1)) (nI_add _ _) ?_
      exact x_iret dJ20_numberOfTrailingZeros_79 rfl (pS' (by decide))
    · show X l yJ20_numberOfTrailingZeros cJ20_numberOfTrailingZeros 2 (some FieldType.int) [] G (yroom 0 0 0) (yEnd G (yroom 0 0 0) (PS σ (nI 21))) 8 [(0, .int (nI 2097151))] [] σ 0 0
      refine x_iload_n dJ20_numberOfTrailingZeros_8 0 rfl rfl ?_
      refine x_if_gt (tgt := 17) dJ20_numberOfTrailingZeros_9 (by decide) (fun _ => ?_) (fun h_ => absurd (by decide) h_)
      refine x_iconst (v := nI 1) dJ20_numberOfTrailingZeros_17 (by decide) ?_
      refine x_istore_n (i := 1) (L' := [(1, .int (nI 1)), (0, .int (nI 2097151))]) dJ20_numberOfTrailingZeros_18 rfl (by decide) rfl ?_
      refine x_iload_n dJ20_numberOfTrailingZeros_19 1 rfl rfl ?_
      refine x_ldcw (v := nI 65536) dJ20_numberOfTrailingZeros_20 q570 ?_
      refine x_icmp_le (tgt := 34) dJ20_numberOfTrailingZeros_23 (by decide) (fun h_ => absurd h_ (by decide)) (fun _ => ?_)
      refine x_iinc (i := 1) (q := 0) (v := nI 17) (L' := [(1, .int (nI 17)), (0, .int (nI 2097151))]) dJ20_numberOfTrailingZeros_26 rfl (by decide) (by decide) rfl ?_
      refine x_iload_n dJ20_numberOfTrailingZeros_29 1 rfl rfl ?_
      refine x_bipush (v := nI 16) dJ20_numberOfTrailingZeros_30 (by decide) ?_
      refine x_iushr (v := nI 31) dJ20_numberOfTrailingZeros_32 (by decide) ?_
      refine x_istore_n (i := 0) (L' := [(0, .int (nI 31)), (1, .int (nI 17))]) dJ20_numberOfTrailingZeros_33 rfl (by decide) rfl ?_
      refine x_iload_n dJ20_numberOfTrailingZeros_34 0 rfl rfl ?_
      refine x_sipush (v := nI 256) dJ20_numberOfTrailingZeros_35 (by decide) ?_
      refine x_icmp_le (tgt := 49) dJ20_numberOfTrailingZeros_38 (by decide) (fun _ => ?_) (fun h_ => absurd (by decide) h_)
      refine x_iload_n dJ20_numberOfTrailingZeros_49 0 rfl rfl ?_
      refine x_bipush (v := nI 16) dJ20_numberOfTrailingZeros_50 (by decide) ?_
      refine x_icmp_le (tgt := 62) dJ20_numberOfTrailingZeros_52 (by decide) (fun h_ => absurd h_ (by decide)) (fun _ => ?_)
      refine x_iinc (i := 1) (q := 1) (v := nI 21) (L' := [(1, .int (nI 21)), (0, .int (nI 31))]) dJ20_numberOfTrailingZeros_55 rfl (by decide) (by decide) rfl ?_
      refine x_iload_n dJ20_numberOfTrailingZeros_58 1 rfl rfl ?_
      refine x_iconst (v := nI 4) dJ20_numberOfTrailingZeros_59 (by decide) ?_
      refine x_iushr (v := nI 1) dJ20_numberOfTrailingZeros_60 (by decide) ?_
      refine x_istore_n (i := 0) (L' := [(0, .int (nI 1)), (1, .int (nI 21))]) dJ20_numberOfTrailingZeros_61 rfl (by decide) rfl ?_
      refine x_iload_n dJ20_numberOfTrailingZeros_62 0 rfl rfl ?_
      refine x_iconst (v := nI 4) dJ20_numberOfTrailingZeros_63 (by decide) ?_
      refine x_icmp_le (tgt := 74) dJ20_numberOfTrailingZeros_64 (by decide) (fun _ => ?_) (fun h_ => absurd (by decide) h_)
      refine x_iload_n dJ20_numberOfTrailingZeros_74 1 rfl rfl ?_
      refine x_iload_n dJ20_numberOfTrailingZeros_75 0 rfl rfl ?_
      refine x_iconst (v := nI 1) dJ20_numberOfTrailingZeros_76 (by decide) ?_
      refine x_iushr (v := nI 0) dJ20_numberOfTrailingZeros_77 (by decide) ?_
      refine x_iadd dJ20_numberOfTrailingZeros_78 ?_
      refine x_top (x' := nI (21 + 0)) (nI_add _ _) ?_
      exact x_iret dJ20_numberOfTrailingZeros_79 rfl (pS' (by decide))
    · show X l yJ20_numberOfTrailingZeros cJ20_numberOfTrailingZeros 2 (some FieldType.int) [] G (yroom 0 0 0) (yEnd G (yroom 0 0 0) (PS σ (nI 22))) 8 [(0, .int (nI 4194303))] [] σ 0 0
      refine x_iload_n dJ20_numberOfTrailingZeros_8 0 rfl rfl ?_
      refine x_if_gt (tgt := 17) dJ20_numberOfTrailingZeros_9 (by decide) (fun _ => ?_) (fun h_ => absurd (by decide) h_)
      refine x_iconst (v := nI 1) dJ20_numberOfTrailingZeros_17 (by decide) ?_
      refine x_istore_n (i := 1) (L' := [(1, .int (nI 1)), (0, .int (nI 4194303))]) dJ20_numberOfTrailingZeros_18 rfl (by decide) rfl ?_
      refine x_iload_n dJ20_numberOfTrailingZeros_19 1 rfl rfl ?_
      refine x_ldcw (v := nI 65536) dJ20_numberOfTrailingZeros_20 q570 ?_
      refine x_icmp_le (tgt := 34) dJ20_numberOfTrailingZeros_23 (by decide) (fun h_ => absurd h_ (by decide)) (fun _ => ?_)
      refine x_iinc (i := 1) (q := 0) (v := nI 17) (L' := [(1, .int (nI 17)), (0, .int (nI 4194303))]) dJ20_numberOfTrailingZeros_26 rfl (by decide) (by decide) rfl ?_
      refine x_iload_n dJ20_numberOfTrailingZeros_29 1 rfl rfl ?_
      refine x_bipush (v := nI 16) dJ20_numberOfTrailingZeros_30 (by decide) ?_
      refine x_iushr (v := nI 63) dJ20_numberOfTrailingZeros_32 (by decide) ?_
      refine x_istore_n (i := 0) (L' := [(0, .int (nI 63)), (1, .int (nI 17))]) dJ20_numberOfTrailingZeros_33 rfl (by decide) rfl ?_
      refine x_iload_n dJ20_numberOfTrailingZeros_34 0 rfl rfl ?_
      refine x_sipush (v := nI 256) dJ20_numberOfTrailingZeros_35 (by decide) ?_
      refine x_icmp_le (tgt := 49) dJ20_numberOfTrailingZeros_38 (by decide) (fun _ => ?_) (fun h_ => absurd (by decide) h_)
      refine x_iload_n dJ20_numberOfTrailingZeros_49 0 rfl rfl ?_
      refine x_bipush (v := nI 16) dJ20_numberOfTrailingZeros_50 (by decide) ?_
      refine x_icmp_le (tgt := 62) dJ20_numberOfTrailingZeros_52 (by decide) (fun h_ => absurd h_ (by decide)) (fun _ => ?_)
      refine x_iinc (i := 1) (q := 1) (v := nI 21) (L' := [(1, .int (nI 21)), (0, .int (nI 63))]) dJ20_numberOfTrailingZeros_55 rfl (by decide) (by decide) rfl ?_
      refine x_iload_n dJ20_numberOfTrailingZeros_58 1 rfl rfl ?_
      refine x_iconst (v := nI 4) dJ20_numberOfTrailingZeros_59 (by decide) ?_
      refine x_iushr (v := nI 3) dJ20_numberOfTrailingZeros_60 (by decide) ?_
      refine x_istore_n (i := 0) (L' := [(0, .int (nI 3)), (1, .int (nI 21))]) dJ20_numberOfTrailingZeros_61 rfl (by decide) rfl ?_
      refine x_iload_n dJ20_numberOfTrailingZeros_62 0 rfl rfl ?_
      refine x_iconst (v := nI 4) dJ20_numberOfTrailingZeros_63 (by decide) ?_
      refine x_icmp_le (tgt := 74) dJ20_numberOfTrailingZeros_64 (by decide) (fun _ => ?_) (fun h_ => absurd (by decide) h_)
      refine x_iload_n dJ20_numberOfTrailingZeros_74 1 rfl rfl ?_
      refine x_iload_n dJ20_numberOfTrailingZeros_75 0 rfl rfl ?_
      refine x_iconst (v := nI 1) dJ20_numberOfTrailingZeros_76 (by decide) ?_
      refine x_iushr (v := nI 1) dJ20_numberOfTrailingZeros_77 (by decide) ?_
      refine x_iadd dJ20_numberOfTrailingZeros_78 ?_
      refine x_top (x' := nI (21 + 1)) (nI_add _ _) ?_
      exact x_iret dJ20_numberOfTrailingZeros_79 rfl (pS' (by decide))
    · show X l yJ20_numberOfTrailingZeros cJ20_numberOfTrailingZeros 2 (some FieldType.int) [] G (yroom 0 0 0) (yEnd G (yroom 0 0 0) (PS σ (nI 23))) 8 [(0, .int (nI 8388607))] [] σ 0 0
      refine x_iload_n dJ20_numberOfTrailingZeros_8 0 rfl rfl ?_
      refine x_if_gt (tgt := 17) dJ20_numberOfTrailingZeros_9 (by decide) (fun _ => ?_) (fun h_ => absurd (by decide) h_)
      refine x_iconst (v := nI 1) dJ20_numberOfTrailingZeros_17 (by decide) ?_
      refine x_istore_n (i := 1) (L' := [(1, .int (nI 1)), (0, .int (nI 8388607))]) dJ20_numberOfTrailingZeros_18 rfl (by decide) rfl ?_
      refine x_iload_n dJ20_numberOfTrailingZeros_19 1 rfl rfl ?_
      refine x_ldcw (v := nI 65536) dJ20_numberOfTrailingZeros_20 q570 ?_
      refine x_icmp_le (tgt := 34) dJ20_numberOfTrailingZeros_23 (by decide) (fun h_ => absurd h_ (by decide)) (fun _ => ?_)
      refine x_iinc (i := 1) (q := 0) (v := nI 17) (L' := [(1, .int (nI 17)), (0, .int (nI 8388607))]) dJ20_numberOfTrailingZeros_26 rfl (by decide) (by decide) rfl ?_
      refine x_iload_n dJ20_numberOfTrailingZeros_29 1 rfl rfl ?_
      refine x_bipush (v := nI 16) dJ20_numberOfTrailingZeros_30 (by decide) ?_
      refine x_iushr (v := nI 127) dJ20_numberOfTrailingZeros_32 (by decide) ?_
      refine x_istore_n (i := 0) (L' := [(0, .int (nI 127)), (1, .int (nI 17))]) dJ20_numberOfTrailingZeros_33 rfl (by decide) rfl ?_
      refine x_iload_n dJ20_numberOfTrailingZeros_34 0 rfl rfl ?_
      refine x_sipush (v := nI 256) dJ20_numberOfTrailingZeros_35 (by decide) ?_
      refine x_icmp_le (tgt := 49) dJ20_numberOfTrailingZeros_38 (by decide) (fun _ => ?_) (fun h_ => absurd (by decide) h_)
      refine x_iload_n dJ20_numberOfTrailingZeros_49 0 rfl rfl ?_
      refine x_bipush (v := nI 16) dJ20_numberOfTrailingZeros_50 (by decide) ?_
      refine x_icmp_le (tgt := 62) dJ20_numberOfTrailingZeros_52 (by decide) (fun h_ => absurd h_ (by decide)) (fun _ => ?_)
      refine x_iinc (i := 1) (q := 1) (v := nI 21) (L' := [(1, .int (nI 21)), (0, .int (nI 127))]) dJ20_numberOfTrailingZeros_55 rfl (by decide) (by decide) rfl ?_
      refine x_iload_n dJ20_numberOfTrailingZeros_58 1 rfl rfl ?_
      refine x_iconst (v := nI 4) dJ20_numberOfTrailingZeros_59 (by decide) ?_
      refine x_iushr (v := nI 7) dJ20_numberOfTrailingZeros_60 (by decide) ?_
      refine x_istore_n (i := 0) (L' := [(0, .int (nI 7)), (1, .int (nI 21))]) dJ20_numberOfTrailingZeros_61 rfl (by decide) rfl ?_
      refine x_iload_n dJ20_numberOfTrailingZeros_62 0 rfl rfl ?_
      refine x_iconst (v := nI 4) dJ20_numberOfTrailingZeros_63 (by decide) ?_
      refine x_icmp_le (tgt := 74) dJ20_numberOfTrailingZeros_64 (by decide) (fun h_ => absurd h_ (by decide)) (fun _ => ?_)
      refine x_iinc (i := 1) (q := 1) (v := nI 23) (L' := [(1, .int (nI 23)), (0, .int (nI 7))]) dJ20_numberOfTrailingZeros_67 rfl (by decide) (by decide) rfl ?_
      refine x_iload_n dJ20_numberOfTrailingZeros_70 1 rfl rfl ?_
      refine x_iconst (v := nI 2) dJ20_numberOfTrailingZeros_71 (by decide) ?_
      refine x_iushr (v := nI 1) dJ20_numberOfTrailingZeros_72 (by decide) ?_
      refine x_istore_n (i := 0) (L' := [(0, .int (nI 1)), (1, .int (nI 23))]) dJ20_numberOfTrailingZeros_73 rfl (by decide) rfl ?_
      refine x_iload_n dJ20_numberOfTrailingZeros_74 1 rfl rfl ?_
      refine x_iload_n dJ20_numberOfTrailingZeros_75 0 rfl rfl ?_
      refine x_iconst (v := nI 1) dJ20_numberOfTrailingZeros_76 (by decide) ?_
      refine x_iushr (v := nI 0) dJ20_numberOfTrailingZeros_77 (by decide) ?_
      refine x_iadd dJ20_numberOfTrailingZeros_78 ?_
      refine x_top (x' := nI (23 + 0)) (nI_add _ _) ?_
      exact x_iret dJ20_numberOfTrailingZeros_79 rfl (pS' (by decide))
  exact key k hk
