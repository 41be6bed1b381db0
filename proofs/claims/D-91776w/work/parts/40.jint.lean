/-! Integer.numberOfTrailingZeros -/
section C40
theorem c_ntz (x : Int32) (i : Nat) (hi : i < 32) (h1 : bt x i = true) (h0 : ∀ j, j < i → bt x j = false) : zCtr yJ8_numberOfTrailingZeros cJ8_numberOfTrailingZeros 2 (some .int) 0 0 0 [zi x] [zH] (fun r w => r = some (zi (nI i)) ∧ w = [zH]) zNx := by
  refine z_start (by decide) [some (zi x), none] rfl (fun _ => Nat.le_of_ble_eq_true rfl) (fun _ => rfl) (fun X F E hno hin => ?_)
  refine z_iload_n F dJ8_numberOfTrailingZeros_0 rfl ?_
  refine z_iconst F (-1) dJ8_numberOfTrailingZeros_1 rfl ?_
  refine z_ixor F dJ8_numberOfTrailingZeros_2 ?_
  refine z_iload_n F dJ8_numberOfTrailingZeros_3 rfl ?_
  refine z_iconst F (1) dJ8_numberOfTrailingZeros_4 rfl ?_
  refine z_isub F dJ8_numberOfTrailingZeros_5 ?_
  refine z_iand F dJ8_numberOfTrailingZeros_6 ?_
  refine z_ieq (low_mask hi h1 h0) ?_
  refine z_istore_n F dJ8_numberOfTrailingZeros_7 (Nat.le_of_ble_eq_true rfl) ?_
  refine z_leq (L' := [_, _]) rfl ?_
  refine z_iload_n F dJ8_numberOfTrailingZeros_8 rfl ?_
  refine z_if_gt F (tgt := 17) dJ8_numberOfTrailingZeros_9 (by decide) (fun c_9 => ?_) (fun c_9 => ?_)
  · refine z_iconst F (nI 1) dJ8_numberOfTrailingZeros_17 rfl ?_
    refine z_istore_n F dJ8_numberOfTrailingZeros_18 (Nat.le_of_ble_eq_true rfl) ?_
    refine z_leq (L' := [_, _]) rfl ?_
    refine z_iload_n F dJ8_numberOfTrailingZeros_19 rfl ?_
    refine z_ldcw F dJ8_numberOfTrailingZeros_20 q810 ?_
    refine z_icmp_le F (tgt := 34) dJ8_numberOfTrailingZeros_23 (by decide) (fun c_23 => ?_) (fun c_23 => ?_)
    · refine z_iload_n F dJ8_numberOfTrailingZeros_34 rfl ?_
      refine z_sipush F (nI 256) dJ8_numberOfTrailingZeros_35 rfl ?_
      refine z_icmp_le F (tgt := 49) dJ8_numberOfTrailingZeros_38 (by decide) (fun c_38 => ?_) (fun c_38 => ?_)
      · refine z_iload_n F dJ8_numberOfTrailingZeros_49 rfl ?_
        refine z_bipush F (nI 16) dJ8_numberOfTrailingZeros_50 rfl ?_
        refine z_icmp_le F (tgt := 62) dJ8_numberOfTrailingZeros_52 (by decide) (fun c_52 => ?_) (fun c_52 => ?_)
        · refine z_iload_n F dJ8_numberOfTrailingZeros_62 rfl ?_
          refine z_iconst F (nI 4) dJ8_numberOfTrailingZeros_63 rfl ?_
          refine z_icmp_le F (tgt := 74) dJ8_numberOfTrailingZeros_64 (by decide) (fun c_64 => ?_) (fun c_64 => ?_)
          · refine z_iload_n F dJ8_numberOfTrailingZeros_74 rfl ?_
            refine z_iload_n F dJ8_numberOfTrailingZeros_75 rfl ?_
            refine z_iconst F (nI 1) dJ8_numberOfTrailingZeros_76 rfl ?_
            refine z_iushr F dJ8_numberOfTrailingZeros_77 ?_
            refine z_iadd F dJ8_numberOfTrailingZeros_78 ?_
            exact z_iret F E rfl dJ8_numberOfTrailingZeros_79 (by omega) (by omega) (⟨congrArg (fun z => some (zi z)) (by have cc := And.intro c_9 (And.intro c_23 (And.intro c_38 (And.intro c_52 c_64))); clear h1 h0 E c_9 c_23 c_38 c_52 c_64; revert cc; revert hi; revert i; decide +kernel), rfl⟩)
          · refine z_iincN F 2 dJ8_numberOfTrailingZeros_67 rfl rfl ?_
            refine z_leq (L' := [_, _]) rfl ?_
            refine z_iload_n F dJ8_numberOfTrailingZeros_70 rfl ?_
            refine z_iconst F (nI 2) dJ8_numberOfTrailingZeros_71 rfl ?_
            refine z_iushr F dJ8_numberOfTrailingZeros_72 ?_
            refine z_istore_n F dJ8_numberOfTrailingZeros_73 (Nat.le_of_ble_eq_true rfl) ?_
            refine z_leq (L' := [_, _]) rfl ?_
            refine z_iload_n F dJ8_numberOfTrailingZeros_74 rfl ?_
            refine z_iload_n F dJ8_numberOfTrailingZeros_75 rfl ?_
            refine z_iconst F (nI 1) dJ8_numberOfTrailingZeros_76 rfl ?_
            refine z_iushr F dJ8_numberOfTrailingZeros_77 ?_
            refine z_iadd F dJ8_numberOfTrailingZeros_78 ?_
            exact z_iret F E rfl dJ8_numberOfTrailingZeros_79 (by omega) (by omega) (⟨congrArg (fun z => some (zi z)) (by have cc := And.intro c_9 (And.intro c_23 (And.intro c_38 (And.intro c_52 c_64))); clear h1 h0 E c_9 c_23 c_38 c_52 c_64; revert cc; revert hi; revert i; decide +kernel), rfl⟩)
        · refine z_iincN F 4 dJ8_numberOfTrailingZeros_55 rfl rfl ?_
          refine z_leq (L' := [_, _]) rfl ?_
          refine z_iload_n F dJ8_numberOfTrailingZeros_58 rfl ?_
          refine z_iconst F (nI 4) dJ8_numberOfTrailingZeros_59 rfl ?_
          refine z_iushr F dJ8_numberOfTrailingZeros_60 ?_
          refine z_istore_n F dJ8_numberOfTrailingZeros_61 (Nat.le_of_ble_eq_true rfl) ?_
          refine z_leq (L' := [_, _]) rfl ?_
          refine z_iload_n F dJ8_numberOfTrailingZeros_62 rfl ?_
          refine z_iconst F (nI 4) dJ8_numberOfTrailingZeros_63 rfl ?_
          refine z_icmp_le F (tgt := 74) dJ8_numberOfTrailingZeros_64 (by decide) (fun c_64 => ?_) (fun c_64 => ?_)
          · refine z_iload_n F dJ8_numberOfTrailingZeros_74 rfl ?_
            refine z_iload_n F dJ8_numberOfTrailingZeros_75 rfl ?_
            refine z_iconst F (nI 1) dJ8_numberOfTrailingZeros_76 rfl ?_
            refine z_iushr F dJ8_numberOfTrailingZeros_77 ?_
            refine z_iadd F dJ8_numberOfTrailingZeros_78 ?_
            exact z_iret F E rfl dJ8_numberOfTrailingZeros_79 (by omega) (by omega) (⟨congrArg (fun z => some (zi z)) (by have cc := And.intro c_9 (And.intro c_23 (And.intro c_38 (And.intro c_52 c_64))); clear h1 h0 E c_9 c_23 c_38 c_52 c_64; revert cc; revert hi; revert i; decide +kernel), rfl⟩)
          · refine z_iincN F 2 dJ8_numberOfTrailingZeros_67 rfl rfl ?_
            refine z_leq (L' := [_, _]) rfl ?_
            refine z_iload_n F dJ8_numberOfTrailingZeros_70 rfl ?_
            refine z_iconst F (nI 2) dJ8_numberOfTrailingZeros_71 rfl ?_
            refine z_iushr F dJ8_numberOfTrailingZeros_72 ?_
            refine z_istore_n F dJ8_numberOfTrailingZeros_73 (Nat.le_of_ble_eq_true rfl) ?_
            refine z_leq (L' := [_, _]) rfl ?_
            refine z_iload_n F dJ8_numberOfTrailingZeros_74 rfl ?_
            refine z_iload_n F dJ8_numberOfTrailingZeros_75 rfl ?_
            refine z_iconst F (nI 1) dJ8_numberOfTrailingZeros_76 rfl ?_
            refine z_iushr F dJ8_numberOfTrailingZeros_77 ?_
            refine z_iadd F dJ8_numberOfTrailingZeros_78 ?_
            exact z_iret F E rfl dJ8_numberOfTrailingZeros_79 (by omega) (by omega) (⟨congrArg (fun z => some (zi z)) (by have cc := And.intro c_9 (And.intro c_23 (And.intro c_38 (And.intro c_52 c_64))); clear h1 h0 E c_9 c_23 c_38 c_52 c_64; revert cc; revert hi; revert i; decide +kernel), rfl⟩)
      · refine z_iincN F 8 dJ8_numberOfTrailingZeros_41 rfl rfl ?_
        refine z_leq (L' := [_, _]) rfl ?_
        refine z_iload_n F dJ8_numberOfTrailingZeros_44 rfl ?_
        refine z_bipush F (nI 8) dJ8_numberOfTrailingZeros_45 rfl ?_
        refine z_iushr F dJ8_numberOfTrailingZeros_47 ?_
        refine z_istore_n F dJ8_numberOfTrailingZeros_48 (Nat.le_of_ble_eq_true rfl) ?_
        refine z_leq (L' := [_, _]) rfl ?_
        refine z_iload_n F dJ8_numberOfTrailingZeros_49 rfl ?_
        refine z_bipush F (nI 16) dJ8_numberOfTrailingZeros_50 rfl ?_
        refine z_icmp_le F (tgt := 62) dJ8_numberOfTrailingZeros_52 (by decide) (fun c_52 => ?_) (fun c_52 => ?_)
        · refine z_iload_n F dJ8_numberOfTrailingZeros_62 rfl ?_
          refine z_iconst F (nI 4) dJ8_numberOfTrailingZeros_63 rfl ?_
          refine z_icmp_le F (tgt := 74) dJ8_numberOfTrailingZeros_64 (by decide) (fun c_64 => ?_) (fun c_64 => ?_)
          · refine z_iload_n F dJ8_numberOfTrailingZeros_74 rfl ?_
            refine z_iload_n F dJ8_numberOfTrailingZeros_75 rfl ?_
            refine z_iconst F (nI 1) dJ8_numberOfTrailingZeros_76 rfl ?_
            refine z_iushr F dJ8_numberOfTrailingZeros_77 ?_
            refine z_iadd F dJ8_numberOfTrailingZeros_78 ?_
            exact z_iret F E rfl dJ8_numberOfTrailingZeros_79 (by omega) (by omega) (⟨congrArg (fun z => some (zi z)) (by have cc := And.intro c_9 (And.intro c_23 (And.intro c_38 (And.intro c_52 c_64))); clear h1 h0 E c_9 c_23 c_38 c_52 c_64; revert cc; revert hi; revert i; decide +kernel), rfl⟩)
          · refine z_iincN F 2 dJ8_numberOfTrailingZeros_67 rfl rfl ?_
            refine z_leq (L' := [_, _]) rfl ?_
            refine z_iload_n F dJ8_numberOfTrailingZeros_70 rfl ?_
            refine z_iconst F (nI 2) dJ8_numberOfTrailingZeros_71 rfl ?_
            refine z_iushr F dJ8_numberOfTrailingZeros_72 ?_
            refine z_istore_n F dJ8_numberOfTrailingZeros_73 (Nat.le_of_ble_eq_true rfl) ?_
            refine z_leq (L' := [_, _]) rfl ?_
            refine z_iload_n F dJ8_numberOfTrailingZeros_74 rfl ?_
            refine z_iload_n F dJ8_numberOfTrailingZeros_75 rfl ?_
            refine z_iconst F (nI 1) dJ8_numberOfTrailingZeros_76 rfl ?_
            refine z_iushr F dJ8_numberOfTrailingZeros_77 ?_
            refine z_iadd F dJ8_numberOfTrailingZeros_78 ?_
            exact z_iret F E rfl dJ8_numberOfTrailingZeros_79 (by omega) (by omega) (⟨congrArg (fun z => some (zi z)) (by have cc := And.intro c_9 (And.intro c_23 (And.intro c_38 (And.intro c_52 c_64))); clear h1 h0 E c_9 c_23 c_38 c_52 c_64; revert cc; revert hi; revert i; decide +kernel), rfl⟩)
        · refine z_iincN F 4 dJ8_numberOfTrailingZeros_55 rfl rfl ?_
          refine z_leq (L' := [_, _]) rfl ?_
          refine z_iload_n F dJ8_numberOfTrailingZeros_58 rfl ?_
          refine z_iconst F (nI 4) dJ8_numberOfTrailingZeros_59 rfl ?_
          refine z_iushr F dJ8_numberOfTrailingZeros_60 ?_
          refine z_istore_n F dJ8_numberOfTrailingZeros_61 (Nat.le_of_ble_eq_true rfl) ?_
          refine z_leq (L' := [_, _]) rfl ?_
          refine z_iload_n F dJ8_numberOfTrailingZeros_62 rfl ?_
          refine z_iconst F (nI 4) dJ8_numberOfTrailingZeros_63 rfl ?_
          refine z_icmp_le F (tgt := 74) dJ8_numberOfTrailingZeros_64 (by decide) (fun c_64 => ?_) (fun c_64 => ?_)
          · refine z_iload_n F dJ8_numberOfTrailingZeros_74 rfl ?_
            refine z_iload_n F dJ8_numberOfTrailingZeros_75 rfl ?_
            refine z_iconst F (nI 1) dJ8_numberOfTrailingZeros_76 rfl ?_
            refine z_iushr F dJ8_numberOfTrailingZeros_77 ?_
            refine z_iadd F dJ8_numberOfTrailingZeros_78 ?_
            exact z_iret F E rfl dJ8_numberOfTrailingZeros_79 (by omega) (by omega) (⟨congrArg (fun z => some (zi z)) (by have cc := And.intro c_9 (And.intro c_23 (And.intro c_38 (And.intro c_52 c_64))); clear h1 h0 E c_9 c_23 c_38 c_52 c_64; revert cc; revert hi; revert i; decide +kernel), rfl⟩)
          · refine z_iincN F 2 dJ8_numberOfTrailingZeros_67 rfl rfl ?_
            refine z_leq (L' := [_, _]) rfl ?_
            refine z_iload_n F dJ8_numberOfTrailingZeros_70 rfl ?_
            refine z_iconst F (nI 2) dJ8_numberOfTrailingZeros_71 rfl ?_
            refine z_iushr F dJ8_numberOfTrailingZeros_72 ?_
            refine z_istore_n F dJ8_numberOfTrailingZeros_73 (Nat.le_of_ble_eq_true rfl) ?_
            refine z_leq (L' := [_, _]) rfl ?_
            refine z_iload_n F dJ8_numberOfTrailingZeros_74 rfl ?_
            refine z_iload_n F dJ8_numberOfTrailingZeros_75 rfl ?_
            refine z_iconst F (nI 1) dJ8_numberOfTrailingZeros_76 rfl ?_
            refine z_iushr F dJ8_numberOfTrailingZeros_77 ?_
            refine z_iadd F dJ8_numberOfTrailingZeros_78 ?_
            exact z_iret F E rfl dJ8_numberOfTrailingZeros_79 (by omega) (by omega) (⟨congrArg (fun z => some (zi z)) (by have cc := And.intro c_9 (And.intro c_23 (And.intro c_38 (And.intro c_52 c_64))); clear h1 h0 E c_9 c_23 c_38 c_52 c_64; revert cc; revert hi; revert i; decide +kernel), rfl⟩)
    · refine z_iincN F 16 dJ8_numberOfTrailingZeros_26 rfl rfl ?_
      refine z_leq (L' := [_, _]) rfl ?_
      refine z_iload_n F dJ8_numberOfTrailingZeros_29 rfl ?_
      refine z_bipush F (nI 16) dJ8_numberOfTrailingZeros_30 rfl ?_
      refine z_iushr F dJ8_numberOfTrailingZeros_32 ?_
      refine z_istore_n F dJ8_numberOfTrailingZeros_33 (Nat.le_of_ble_eq_true rfl) ?_
      refine z_leq (L' := [_, _]) rfl ?_
      refine z_iload_n F dJ8_numberOfTrailingZeros_34 rfl ?_
      refine z_sipush F (nI 256) dJ8_numberOfTrailingZeros_35 rfl ?_
      refine z_icmp_le F (tgt := 49) dJ8_numberOfTrailingZeros_38 (by decide) (fun c_38 => ?_) (fun c_38 => ?_)
      · refine z_iload_n F dJ8_numberOfTrailingZeros_49 rfl ?_
        refine z_bipush F (nI 16) dJ8_numberOfTrailingZeros_50 rfl ?_
        refine z_icmp_le F (tgt := 62) dJ8_numberOfTrailingZeros_52 (by decide) (fun c_52 => ?_) (fun c_52 => ?_)
        · refine z_iload_n F dJ8_numberOfTrailingZeros_62 rfl ?_
          refine z_iconst F (nI 4) dJ8_numberOfTrailingZeros_63 rfl ?_
          refine z_icmp_le F (tgt := 74) dJ8_numberOfTrailingZeros_64 (by decide) (fun c_64 => ?_) (fun c_64 => ?_)
          · refine z_iload_n F dJ8_numberOfTrailingZeros_74 rfl ?_
            refine z_iload_n F dJ8_numberOfTrailingZeros_75 rfl ?_
            refine z_iconst F (nI 1) dJ8_numberOfTrailingZeros_76 rfl ?_
            refine z_iushr F dJ8_numberOfTrailingZeros_77 ?_
            refine z_iadd F dJ8_numberOfTrailingZeros_78 ?_
            exact z_iret F E rfl dJ8_numberOfTrailingZeros_79 (by omega) (by omega) (⟨congrArg (fun z => some (zi z)) (by have cc := And.intro c_9 (And.intro c_23 (And.intro c_38 (And.intro c_52 c_64))); clear h1 h0 E c_9 c_23 c_38 c_52 c_64; revert cc; revert hi; revert i; decide +kernel), rfl⟩)
          · refine z_iincN F 2 dJ8_numberOfTrailingZeros_67 rfl rfl ?_
            refine z_leq (L' := [_, _]) rfl ?_
            refine z_iload_n F dJ8_numberOfTrailingZeros_70 rfl ?_
            refine z_iconst F (nI 2) dJ8_numberOfTrailingZeros_71 rfl ?_
            refine z_iushr F dJ8_numberOfTrailingZeros_72 ?_
            refine z_istore_n F dJ8_numberOfTrailingZeros_73 (Nat.le_of_ble_eq_true rfl) ?_
            refine z_leq (L' := [_, _]) rfl ?_
            refine z_iload_n F dJ8_numberOfTrailingZeros_74 rfl ?_
            refine z_iload_n F dJ8_numberOfTrailingZeros_75 rfl ?_
            refine z_iconst F (nI 1) dJ8_numberOfTrailingZeros_76 rfl ?_
            refine z_iushr F dJ8_numberOfTrailingZeros_77 ?_
            refine z_iadd F dJ8_numberOfTrailingZeros_78 ?_
            exact z_iret F E rfl dJ8_numberOfTrailingZeros_79 (by omega) (by omega) (⟨congrArg (fun z => some (zi z)) (by have cc := And.intro c_9 (And.intro c_23 (And.intro c_38 (And.intro c_52 c_64))); clear h1 h0 E c_9 c_23 c_38 c_52 c_64; revert cc; revert hi; revert i; decide +kernel), rfl⟩)
        · refine z_iincN F 4 dJ8_numberOfTrailingZeros_55 rfl rfl ?_
          refine z_leq (L' := [_, _]) rfl ?_
          refine z_iload_n F dJ8_numberOfTrailingZeros_58 rfl ?_
          refine z_iconst F (nI 4) dJ8_numberOfTrailingZeros_59 rfl ?_
          refine z_iushr F dJ8_numberOfTrailingZeros_60 ?_
          refine z_istore_n F dJ8_numberOfTrailingZeros_61 (Nat.le_of_ble_eq_true rfl) ?_
          refine z_leq (L' := [_, _]) rfl ?_
          refine z_iload_n F dJ8_numberOfTrailingZeros_62 rfl ?_
          refine z_iconst F (nI 4) dJ8_numberOfTrailingZeros_63 rfl ?_
          refine z_icmp_le F (tgt := 74) dJ8_numberOfTrailingZeros_64 (by decide) (fun c_64 => ?_) (fun c_64 => ?_)
          · refine z_iload_n F dJ8_numberOfTrailingZeros_74 rfl ?_
            refine z_iload_n F dJ8_numberOfTrailingZeros_75 rfl ?_
            refine z_iconst F (nI 1) dJ8_numberOfTrailingZeros_76 rfl ?_
            refine z_iushr F dJ8_numberOfTrailingZeros_77 ?_
            refine z_iadd F dJ8_numberOfTrailingZeros_78 ?_
            exact z_iret F E rfl dJ8_numberOfTrailingZeros_79 (by omega) (by omega) (⟨congrArg (fun z => some (zi z)) (by have cc := And.intro c_9 (And.intro c_23 (And.intro c_38 (And.intro c_52 c_64))); clear h1 h0 E c_9 c_23 c_38 c_52 c_64; revert cc; revert hi; revert i; decide +kernel), rfl⟩)
          · refine z_iincN F 2 dJ8_numberOfTrailingZeros_67 rfl rfl ?_
            refine z_leq (L' := [_, _]) rfl ?_
            refine z_iload_n F dJ8_numberOfTrailingZeros_70 rfl ?_
            refine z_iconst F (nI 2) dJ8_numberOfTrailingZeros_71 rfl ?_
            refine z_iushr F dJ8_numberOfTrailingZeros_72 ?_
            refine z_istore_n F dJ8_numberOfTrailingZeros_73 (Nat.le_of_ble_eq_true rfl) ?_
            refine z_leq (L' := [_, _]) rfl ?_
            refine z_iload_n F dJ8_numberOfTrailingZeros_74 rfl ?_
            refine z_iload_n F dJ8_numberOfTrailingZeros_75 rfl ?_
            refine z_iconst F (nI 1) dJ8_numberOfTrailingZeros_76 rfl ?_
            refine z_iushr F dJ8_numberOfTrailingZeros_77 ?_
            refine z_iadd F dJ8_numberOfTrailingZeros_78 ?_
            exact z_iret F E rfl dJ8_numberOfTrailingZeros_79 (by omega) (by omega) (⟨congrArg (fun z => some (zi z)) (by have cc := And.intro c_9 (And.intro c_23 (And.intro c_38 (And.intro c_52 c_64))); clear h1 h0 E c_9 c_23 c_38 c_52 c_64; revert cc; revert hi; revert i; decide +kernel), rfl⟩)
      · refine z_iincN F 8 dJ8_numberOfTrailingZeros_41 rfl rfl ?_
        refine z_leq (L' := [_, _]) rfl ?_
        refine z_iload_n F dJ8_numberOfTrailingZeros_44 rfl ?_
        refine z_bipush F (nI 8) dJ8_numberOfTrailingZeros_45 rfl ?_
        refine z_iushr F dJ8_numberOfTrailingZeros_47 ?_
        refine z_istore_n F dJ8_numberOfTrailingZeros_48 (Nat.le_of_ble_eq_true rfl) ?_
        refine z_leq (L' := [_, _]) rfl ?_
        refine z_iload_n F dJ8_numberOfTrailingZeros_49 rfl ?_
        refine z_bipush F (nI 16) dJ8_numberOfTrailingZeros_50 rfl ?_
        refine z_icmp_le F (tgt := 62) dJ8_numberOfTrailingZeros_52 (by decide) (fun c_52 => ?_) (fun c_52 => ?_)
        · refine z_iload_n F dJ8_numberOfTrailingZeros_62 rfl ?_
          refine z_iconst F (nI 4) dJ8_numberOfTrailingZeros_63 rfl ?_
          refine z_icmp_le F (tgt := 74) dJ8_numberOfTrailingZeros_64 (by decide) (fun c_64 => ?_) (fun c_64 => ?_)
          · refine z_iload_n F dJ8_numberOfTrailingZeros_74 rfl ?_
            refine z_iload_n F dJ8_numberOfTrailingZeros_75 rfl ?_
            refine z_iconst F (nI 1) dJ8_numberOfTrailingZeros_76 rfl ?_
            refine z_iushr F dJ8_numberOfTrailingZeros_77 ?_
            refine z_iadd F dJ8_numberOfTrailingZeros_78 ?_
            exact z_iret F E rfl dJ8_numberOfTrailingZeros_79 (by omega) (by omega) (⟨congrArg (fun z => some (zi z)) (by have cc := And.intro c_9 (And.intro c_23 (And.intro c_38 (And.intro c_52 c_64))); clear h1 h0 E c_9 c_23 c_38 c_52 c_64; revert cc; revert hi; revert i; decide +kernel), rfl⟩)
          · refine z_iincN F 2 dJ8_numberOfTrailingZeros_67 rfl rfl ?_
            refine z_leq (L' := [_, _]) rfl ?_
            refine z_iload_n F dJ8_numberOfTrailingZeros_70 rfl ?_
            refine z_iconst F (nI 2) dJ8_numberOfTrailingZeros_71 rfl ?_
            refine z_iushr F dJ8_numberOfTrailingZeros_72 ?_
            refine z_istore_n F dJ8_numberOfTrailingZeros_73 (Nat.le_of_ble_eq_true rfl) ?_
            refine z_leq (L' := [_, _]) rfl ?_
            refine z_iload_n F dJ8_numberOfTrailingZeros_74 rfl ?_
            refine z_iload_n F dJ8_numberOfTrailingZeros_75 rfl ?_
            refine z_iconst F (nI 1) dJ8_numberOfTrailingZeros_76 rfl ?_
            refine z_iushr F dJ8_numberOfTrailingZeros_77 ?_
            refine z_iadd F dJ8_numberOfTrailingZeros_78 ?_
            exact z_iret F E rfl dJ8_numberOfTrailingZeros_79 (by omega) (by omega) (⟨congrArg (fun z => some (zi z)) (by have cc := And.intro c_9 (And.intro c_23 (And.intro c_38 (And.intro c_52 c_64))); clear h1 h0 E c_9 c_23 c_38 c_52 c_64; revert cc; revert hi; revert i; decide +kernel), rfl⟩)
        · refine z_iincN F 4 dJ8_numberOfTrailingZeros_55 rfl rfl ?_
          refine z_leq (L' := [_, _]) rfl ?_
          refine z_iload_n F dJ8_numberOfTrailingZeros_58 rfl ?_
          refine z_iconst F (nI 4) dJ8_numberOfTrailingZeros_59 rfl ?_
          refine z_iushr F dJ8_numberOfTrailingZeros_60 ?_
          refine z_istore_n F dJ8_numberOfTrailingZeros_61 (Nat.le_of_ble_eq_true rfl) ?_
          refine z_leq (L' := [_, _]) rfl ?_
          refine z_iload_n F dJ8_numberOfTrailingZeros_62 rfl ?_
          refine z_iconst F (nI 4) dJ8_numberOfTrailingZeros_63 rfl ?_
          refine z_icmp_le F (tgt := 74) dJ8_numberOfTrailingZeros_64 (by decide) (fun c_64 => ?_) (fun c_64 => ?_)
          · refine z_iload_n F dJ8_numberOfTrailingZeros_74 rfl ?_
            refine z_iload_n F dJ8_numberOfTrailingZeros_75 rfl ?_
            refine z_iconst F (nI 1) dJ8_numberOfTrailingZeros_76 rfl ?_
            refine z_iushr F dJ8_numberOfTrailingZeros_77 ?_
            refine z_iadd F dJ8_numberOfTrailingZeros_78 ?_
            exact z_iret F E rfl dJ8_numberOfTrailingZeros_79 (by omega) (by omega) (⟨congrArg (fun z => some (zi z)) (by have cc := And.intro c_9 (And.intro c_23 (And.intro c_38 (And.intro c_52 c_64))); clear h1 h0 E c_9 c_23 c_38 c_52 c_64; revert cc; revert hi; revert i; decide +kernel), rfl⟩)
          · refine z_iincN F 2 dJ8_numberOfTrailingZeros_67 rfl rfl ?_
            refine z_leq (L' := [_, _]) rfl ?_
            refine z_iload_n F dJ8_numberOfTrailingZeros_70 rfl ?_
            refine z_iconst F (nI 2) dJ8_numberOfTrailingZeros_71 rfl ?_
            refine z_iushr F dJ8_numberOfTrailingZeros_72 ?_
            refine z_istore_n F dJ8_numberOfTrailingZeros_73 (Nat.le_of_ble_eq_true rfl) ?_
            refine z_leq (L' := [_, _]) rfl ?_
            refine z_iload_n F dJ8_numberOfTrailingZeros_74 rfl ?_
            refine z_iload_n F dJ8_numberOfTrailingZeros_75 rfl ?_
            refine z_iconst F (nI 1) dJ8_numberOfTrailingZeros_76 rfl ?_
            refine z_iushr F dJ8_numberOfTrailingZeros_77 ?_
            refine z_iadd F dJ8_numberOfTrailingZeros_78 ?_
            exact z_iret F E rfl dJ8_numberOfTrailingZeros_79 (by omega) (by omega) (⟨congrArg (fun z => some (zi z)) (by have cc := And.intro c_9 (And.intro c_23 (And.intro c_38 (And.intro c_52 c_64))); clear h1 h0 E c_9 c_23 c_38 c_52 c_64; revert cc; revert hi; revert i; decide +kernel), rfl⟩)
  · refine z_iload_n F dJ8_numberOfTrailingZeros_12 rfl ?_
    refine z_bipush F (nI 32) dJ8_numberOfTrailingZeros_13 rfl ?_
    refine z_iand F dJ8_numberOfTrailingZeros_15 ?_
    exact z_iret F E rfl dJ8_numberOfTrailingZeros_16 (by omega) (by omega) (⟨congrArg (fun z => some (zi z)) (by clear h1 h0 E; revert c_9; revert hi; revert i; decide +kernel), rfl⟩)
theorem c_bitCount (x : Int32) : zCtr yJ8_bitCount cJ8_bitCount 1 (some .int) 0 0 0 [zi x] [zH] (fun r w => r = some (zi (nI (pc32 x))) ∧ w = [zH]) zNx := by
  refine z_start (by decide) [some (zi x)] rfl (fun _ => Nat.le_of_ble_eq_true rfl) (fun _ => rfl) (fun X F E hno hin => ?_)
  refine z_iload_n F dJ8_bitCount_0 rfl ?_
  refine z_iload_n F dJ8_bitCount_1 rfl ?_
  refine z_iconst F (nI 1) dJ8_bitCount_2 rfl ?_
  refine z_iushr F dJ8_bitCount_3 ?_
  refine z_ldcw F dJ8_bitCount_4 q397 ?_
  refine z_iand F dJ8_bitCount_7 ?_
  refine z_isub F dJ8_bitCount_8 ?_
  refine z_istore_n F dJ8_bitCount_9 (Nat.le_of_ble_eq_true rfl) ?_
  refine z_leq (L' := [_]) rfl ?_
  refine z_iload_n F dJ8_bitCount_10 rfl ?_
  refine z_ldcw F dJ8_bitCount_11 q398 ?_
  refine z_iand F dJ8_bitCount_14 ?_
  refine z_iload_n F dJ8_bitCount_15 rfl ?_
  refine z_iconst F (nI 2) dJ8_bitCount_16 rfl ?_
  refine z_iushr F dJ8_bitCount_17 ?_
  refine z_ldcw F dJ8_bitCount_18 q398 ?_
  refine z_iand F dJ8_bitCount_21 ?_
  refine z_iadd F dJ8_bitCount_22 ?_
  refine z_istore_n F dJ8_bitCount_23 (Nat.le_of_ble_eq_true rfl) ?_
  refine z_leq (L' := [_]) rfl ?_
  refine z_iload_n F dJ8_bitCount_24 rfl ?_
  refine z_iload_n F dJ8_bitCount_25 rfl ?_
  refine z_iconst F (nI 4) dJ8_bitCount_26 rfl ?_
  refine z_iushr F dJ8_bitCount_27 ?_
  refine z_iadd F dJ8_bitCount_28 ?_
  refine z_ldcw F dJ8_bitCount_29 q399 ?_
  refine z_iand F dJ8_bitCount_32 ?_
  refine z_istore_n F dJ8_bitCount_33 (Nat.le_of_ble_eq_true rfl) ?_
  refine z_leq (L' := [_]) rfl ?_
  refine z_iload_n F dJ8_bitCount_34 rfl ?_
  refine z_iload_n F dJ8_bitCount_35 rfl ?_
  refine z_bipush F (nI 8) dJ8_bitCount_36 rfl ?_
  refine z_iushr F dJ8_bitCount_38 ?_
  refine z_iadd F dJ8_bitCount_39 ?_
  refine z_istore_n F dJ8_bitCount_40 (Nat.le_of_ble_eq_true rfl) ?_
  refine z_leq (L' := [_]) rfl ?_
  refine z_iload_n F dJ8_bitCount_41 rfl ?_
  refine z_iload_n F dJ8_bitCount_42 rfl ?_
  refine z_bipush F (nI 16) dJ8_bitCount_43 rfl ?_
  refine z_iushr F dJ8_bitCount_45 ?_
  refine z_iadd F dJ8_bitCount_46 ?_
  refine z_istore_n F dJ8_bitCount_47 (Nat.le_of_ble_eq_true rfl) ?_
  refine z_leq (L' := [_]) rfl ?_
  refine z_iload_n F dJ8_bitCount_48 rfl ?_
  refine z_bipush F (nI 63) dJ8_bitCount_49 rfl ?_
  refine z_iand F dJ8_bitCount_51 ?_
  exact z_iret F E rfl dJ8_bitCount_52 (by omega) (by omega) (⟨congrArg (fun z => some (zi z)) (bc_all x _ _ _ _ _ rfl rfl rfl rfl rfl), rfl⟩)
end C40
