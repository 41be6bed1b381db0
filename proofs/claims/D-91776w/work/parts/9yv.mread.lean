/-! read: the reference reads -/
section C9yv
theorem lcE {x y : Int64} : lg_cmp x y = 0 ↔ x = y := by
  constructor
  · intro h
    have h1 := lc_ge.mp (show 0 ≤ lg_cmp x y by rw [h]; decide)
    have h2 := lc_le.mp (show lg_cmp x y ≤ 0 by rw [h]; decide)
    exact Int64.le_antisymm (Int64.not_lt.mp h2) (Int64.not_lt.mp h1)
  · intro h
    subst h
    have h1 := lc_ge.mpr (show ¬ x < x from Int64.lt_irrefl)
    have h2 := lc_le.mpr (show ¬ x < x from Int64.lt_irrefl)
    exact Int32.le_antisymm h2 h1
theorem lN_ij {a b : Nat} (ha : a < 2 ^ 63) (hb : b < 2 ^ 63) : lN a = lN b ↔ a = b := by
  constructor
  · intro h
    have h1 := congrArg (fun v : Int64 => v.toBitVec.toNat) h
    simp only [lN_nat (show a < 2 ^ 64 by omega), lN_nat (show b < 2 ^ 64 by omega)] at h1
    exact h1
  · intro h; rw [h]
theorem c_mspell0 : zCtr yX6_spelled cX6_spelled 8 (some .long) 0 0 0 [zi (nI 114), zi (nI 111), zi (nI 119), zi (nI 0), zi (nI 0), zi (nI 0)] [zH] (fun r w => r = some (zl (lN 18935)) ∧ w = [zH]) zNx := by
  refine z_start (by decide) [some (zi (nI 114)), some (zi (nI 111)), some (zi (nI 119)), some (zi (nI 0)), some (zi (nI 0)), some (zi (nI 0)), none, none] rfl (fun _ => Nat.le_of_ble_eq_true rfl) (fun _ => rfl) (fun X F E hno hin => ?_)
  refine z_iload_n F dX6_spelled_0 rfl ?_
  refine z_bipush F (nI 96) dX6_spelled_1 rfl ?_
  refine z_isubN F (by omega) dX6_spelled_3 ?_
  refine z_i2l F dX6_spelled_4 ?_
  refine z_lstore F dX6_spelled_5 (Nat.le_of_ble_eq_true rfl) ?_
  refine z_leq (L' := [_, _, _, _, _, _, _, _]) rfl ?_
  refine z_iload_n F dX6_spelled_7 rfl ?_
  refine z_if_eqN F (by omega) (tgt := 23) dX6_spelled_8 (by decide) (fun c_8 => ?_) (fun c_8 => ?_)
  · exact absurd c_8 (by omega)
  · refine z_lload F dX6_spelled_11 rfl ?_
    refine z_iconst F (nI 5) dX6_spelled_13 rfl ?_
    refine z_lshl F dX6_spelled_14 ?_
    refine z_iload_n F dX6_spelled_15 rfl ?_
    refine z_bipush F (nI 96) dX6_spelled_16 rfl ?_
    refine z_isubN F (by omega) dX6_spelled_18 ?_
    refine z_i2l F dX6_spelled_19 ?_
    refine z_lor F dX6_spelled_20 ?_
    refine z_lstore F dX6_spelled_21 (Nat.le_of_ble_eq_true rfl) ?_
    refine z_leq (L' := [_, _, _, _, _, _, _, _]) rfl ?_
    refine z_iload_n F dX6_spelled_23 rfl ?_
    refine z_if_eqN F (by omega) (tgt := 39) dX6_spelled_24 (by decide) (fun c_24 => ?_) (fun c_24 => ?_)
    · exact absurd c_24 (by omega)
    · refine z_lload F dX6_spelled_27 rfl ?_
      refine z_iconst F (nI 5) dX6_spelled_29 rfl ?_
      refine z_lshl F dX6_spelled_30 ?_
      refine z_iload_n F dX6_spelled_31 rfl ?_
      refine z_bipush F (nI 96) dX6_spelled_32 rfl ?_
      refine z_isubN F (by omega) dX6_spelled_34 ?_
      refine z_i2l F dX6_spelled_35 ?_
      refine z_lor F dX6_spelled_36 ?_
      refine z_lstore F dX6_spelled_37 (Nat.le_of_ble_eq_true rfl) ?_
      refine z_leq (L' := [_, _, _, _, _, _, _, _]) rfl ?_
      refine z_iload_n F dX6_spelled_39 rfl ?_
      refine z_if_eqN F (by omega) (tgt := 55) dX6_spelled_40 (by decide) (fun c_40 => ?_) (fun c_40 => ?_)
      · refine z_iload F dX6_spelled_55 rfl ?_
        refine z_if_eqN F (by omega) (tgt := 73) dX6_spelled_57 (by decide) (fun c_57 => ?_) (fun c_57 => ?_)
        · refine z_iload F dX6_spelled_73 rfl ?_
          refine z_if_eqN F (by omega) (tgt := 91) dX6_spelled_75 (by decide) (fun c_75 => ?_) (fun c_75 => ?_)
          · refine z_lload F dX6_spelled_91 rfl ?_
            exact z_lret F E rfl dX6_spelled_93 (by omega) (by omega) (⟨congrArg (fun v : Int64 => (some (zl v) : Option zV)) (by decide +kernel), rfl⟩)
          · exact absurd c_75 (by omega)
        · exact absurd c_57 (by omega)
      · exact absurd c_40 (by omega)
theorem c_mspell1 : zCtr yX6_spelled cX6_spelled 8 (some .long) 0 0 0 [zi (nI 114), zi (nI 105), zi (nI 110), zi (nI 103), zi (nI 0), zi (nI 0)] [zH] (fun r w => r = some (zl (lN 599495)) ∧ w = [zH]) zNx := by
  refine z_start (by decide) [some (zi (nI 114)), some (zi (nI 105)), some (zi (nI 110)), some (zi (nI 103)), some (zi (nI 0)), some (zi (nI 0)), none, none] rfl (fun _ => Nat.le_of_ble_eq_true rfl) (fun _ => rfl) (fun X F E hno hin => ?_)
  refine z_iload_n F dX6_spelled_0 rfl ?_
  refine z_bipush F (nI 96) dX6_spelled_1 rfl ?_
  refine z_isubN F (by omega) dX6_spelled_3 ?_
  refine z_i2l F dX6_spelled_4 ?_
  refine z_lstore F dX6_spelled_5 (Nat.le_of_ble_eq_true rfl) ?_
  refine z_leq (L' := [_, _, _, _, _, _, _, _]) rfl ?_
  refine z_iload_n F dX6_spelled_7 rfl ?_
  refine z_if_eqN F (by omega) (tgt := 23) dX6_spelled_8 (by decide) (fun c_8 => ?_) (fun c_8 => ?_)
  · exact absurd c_8 (by omega)
  · refine z_lload F dX6_spelled_11 rfl ?_
    refine z_iconst F (nI 5) dX6_spelled_13 rfl ?_
    refine z_lshl F dX6_spelled_14 ?_
    refine z_iload_n F dX6_spelled_15 rfl ?_
    refine z_bipush F (nI 96) dX6_spelled_16 rfl ?_
    refine z_isubN F (by omega) dX6_spelled_18 ?_
    refine z_i2l F dX6_spelled_19 ?_
    refine z_lor F dX6_spelled_20 ?_
    refine z_lstore F dX6_spelled_21 (Nat.le_of_ble_eq_true rfl) ?_
    refine z_leq (L' := [_, _, _, _, _, _, _, _]) rfl ?_
    refine z_iload_n F dX6_spelled_23 rfl ?_
    refine z_if_eqN F (by omega) (tgt := 39) dX6_spelled_24 (by decide) (fun c_24 => ?_) (fun c_24 => ?_)
    · exact absurd c_24 (by omega)
    · refine z_lload F dX6_spelled_27 rfl ?_
      refine z_iconst F (nI 5) dX6_spelled_29 rfl ?_
      refine z_lshl F dX6_spelled_30 ?_
      refine z_iload_n F dX6_spelled_31 rfl ?_
      refine z_bipush F (nI 96) dX6_spelled_32 rfl ?_
      refine z_isubN F (by omega) dX6_spelled_34 ?_
      refine z_i2l F dX6_spelled_35 ?_
      refine z_lor F dX6_spelled_36 ?_
      refine z_lstore F dX6_spelled_37 (Nat.le_of_ble_eq_true rfl) ?_
      refine z_leq (L' := [_, _, _, _, _, _, _, _]) rfl ?_
      refine z_iload_n F dX6_spelled_39 rfl ?_
      refine z_if_eqN F (by omega) (tgt := 55) dX6_spelled_40 (by decide) (fun c_40 => ?_) (fun c_40 => ?_)
      · exact absurd c_40 (by omega)
      · refine z_lload F dX6_spelled_43 rfl ?_
        refine z_iconst F (nI 5) dX6_spelled_45 rfl ?_
        refine z_lshl F dX6_spelled_46 ?_
        refine z_iload_n F dX6_spelled_47 rfl ?_
        refine z_bipush F (nI 96) dX6_spelled_48 rfl ?_
        refine z_isubN F (by omega) dX6_spelled_50 ?_
        refine z_i2l F dX6_spelled_51 ?_
        refine z_lor F dX6_spelled_52 ?_
        refine z_lstore F dX6_spelled_53 (Nat.le_of_ble_eq_true rfl) ?_
        refine z_leq (L' := [_, _, _, _, _, _, _, _]) rfl ?_
        refine z_iload F dX6_spelled_55 rfl ?_
        refine z_if_eqN F (by omega) (tgt := 73) dX6_spelled_57 (by decide) (fun c_57 => ?_) (fun c_57 => ?_)
        · refine z_iload F dX6_spelled_73 rfl ?_
          refine z_if_eqN F (by omega) (tgt := 91) dX6_spelled_75 (by decide) (fun c_75 => ?_) (fun c_75 => ?_)
          · refine z_lload F dX6_spelled_91 rfl ?_
            exact z_lret F E rfl dX6_spelled_93 (by omega) (by omega) (⟨congrArg (fun v : Int64 => (some (zl v) : Option zV)) (by decide +kernel), rfl⟩)
          · exact absurd c_75 (by omega)
        · exact absurd c_57 (by omega)
theorem c_mspell2 : zCtr yX6_spelled cX6_spelled 8 (some .long) 0 0 0 [zi (nI 97), zi (nI 108), zi (nI 108), zi (nI 0), zi (nI 0), zi (nI 0)] [zH] (fun r w => r = some (zl (lN 1420)) ∧ w = [zH]) zNx := by
  refine z_start (by decide) [some (zi (nI 97)), some (zi (nI 108)), some (zi (nI 108)), some (zi (nI 0)), some (zi (nI 0)), some (zi (nI 0)), none, none] rfl (fun _ => Nat.le_of_ble_eq_true rfl) (fun _ => rfl) (fun X F E hno hin => ?_)
  refine z_iload_n F dX6_spelled_0 rfl ?_
  refine z_bipush F (nI 96) dX6_spelled_1 rfl ?_
  refine z_isubN F (by omega) dX6_spelled_3 ?_
  refine z_i2l F dX6_spelled_4 ?_
  refine z_lstore F dX6_spelled_5 (Nat.le_of_ble_eq_true rfl) ?_
  refine z_leq (L' := [_, _, _, _, _, _, _, _]) rfl ?_
  refine z_iload_n F dX6_spelled_7 rfl ?_
  refine z_if_eqN F (by omega) (tgt := 23) dX6_spelled_8 (by decide) (fun c_8 => ?_) (fun c_8 => ?_)
  · exact absurd c_8 (by omega)
  · refine z_lload F dX6_spelled_11 rfl ?_
    refine z_iconst F (nI 5) dX6_spelled_13 rfl ?_
    refine z_lshl F dX6_spelled_14 ?_
    refine z_iload_n F dX6_spelled_15 rfl ?_
    refine z_bipush F (nI 96) dX6_spelled_16 rfl ?_
    refine z_isubN F (by omega) dX6_spelled_18 ?_
    refine z_i2l F dX6_spelled_19 ?_
    refine z_lor F dX6_spelled_20 ?_
    refine z_lstore F dX6_spelled_21 (Nat.le_of_ble_eq_true rfl) ?_
    refine z_leq (L' := [_, _, _, _, _, _, _, _]) rfl ?_
    refine z_iload_n F dX6_spelled_23 rfl ?_
    refine z_if_eqN F (by omega) (tgt := 39) dX6_spelled_24 (by decide) (fun c_24 => ?_) (fun c_24 => ?_)
    · exact absurd c_24 (by omega)
    · refine z_lload F dX6_spelled_27 rfl ?_
      refine z_iconst F (nI 5) dX6_spelled_29 rfl ?_
      refine z_lshl F dX6_spelled_30 ?_
      refine z_iload_n F dX6_spelled_31 rfl ?_
      refine z_bipush F (nI 96) dX6_spelled_32 rfl ?_
      refine z_isubN F (by omega) dX6_spelled_34 ?_
      refine z_i2l F dX6_spelled_35 ?_
      refine z_lor F dX6_spelled_36 ?_
      refine z_lstore F dX6_spelled_37 (Nat.le_of_ble_eq_true rfl) ?_
      refine z_leq (L' := [_, _, _, _, _, _, _, _]) rfl ?_
      refine z_iload_n F dX6_spelled_39 rfl ?_
      refine z_if_eqN F (by omega) (tgt := 55) dX6_spelled_40 (by decide) (fun c_40 => ?_) (fun c_40 => ?_)
      · refine z_iload F dX6_spelled_55 rfl ?_
        refine z_if_eqN F (by omega) (tgt := 73) dX6_spelled_57 (by decide) (fun c_57 => ?_) (fun c_57 => ?_)
        · refine z_iload F dX6_spelled_73 rfl ?_
          refine z_if_eqN F (by omega) (tgt := 91) dX6_spelled_75 (by decide) (fun c_75 => ?_) (fun c_75 => ?_)
          · refine z_lload F dX6_spelled_91 rfl ?_
            exact z_lret F E rfl dX6_spelled_93 (by omega) (by omega) (⟨congrArg (fun v : Int64 => (some (zl v) : Option zV)) (by decide +kernel), rfl⟩)
          · exact absurd c_75 (by omega)
        · exact absurd c_57 (by omega)
      · exact absurd c_40 (by omega)
theorem c_mspell3 : zCtr yX6_spelled cX6_spelled 8 (some .long) 0 0 0 [zi (nI 115), zi (nI 116), zi (nI 97), zi (nI 114), zi (nI 0), zi (nI 0)] [zH] (fun r w => r = some (zl (lN 643122)) ∧ w = [zH]) zNx := by
  refine z_start (by decide) [some (zi (nI 115)), some (zi (nI 116)), some (zi (nI 97)), some (zi (nI 114)), some (zi (nI 0)), some (zi (nI 0)), none, none] rfl (fun _ => Nat.le_of_ble_eq_true rfl) (fun _ => rfl) (fun X F E hno hin => ?_)
  refine z_iload_n F dX6_spelled_0 rfl ?_
  refine z_bipush F (nI 96) dX6_spelled_1 rfl ?_
  refine z_isubN F (by omega) dX6_spelled_3 ?_
  refine z_i2l F dX6_spelled_4 ?_
  refine z_lstore F dX6_spelled_5 (Nat.le_of_ble_eq_true rfl) ?_
  refine z_leq (L' := [_, _, _, _, _, _, _, _]) rfl ?_
  refine z_iload_n F dX6_spelled_7 rfl ?_
  refine z_if_eqN F (by omega) (tgt := 23) dX6_spelled_8 (by decide) (fun c_8 => ?_) (fun c_8 => ?_)
  · exact absurd c_8 (by omega)
  · refine z_lload F dX6_spelled_11 rfl ?_
    refine z_iconst F (nI 5) dX6_spelled_13 rfl ?_
    refine z_lshl F dX6_spelled_14 ?_
    refine z_iload_n F dX6_spelled_15 rfl ?_
    refine z_bipush F (nI 96) dX6_spelled_16 rfl ?_
    refine z_isubN F (by omega) dX6_spelled_18 ?_
    refine z_i2l F dX6_spelled_19 ?_
    refine z_lor F dX6_spelled_20 ?_
    refine z_lstore F dX6_spelled_21 (Nat.le_of_ble_eq_true rfl) ?_
    refine z_leq (L' := [_, _, _, _, _, _, _, _]) rfl ?_
    refine z_iload_n F dX6_spelled_23 rfl ?_
    refine z_if_eqN F (by omega) (tgt := 39) dX6_spelled_24 (by decide) (fun c_24 => ?_) (fun c_24 => ?_)
    · exact absurd c_24 (by omega)
    · refine z_lload F dX6_spelled_27 rfl ?_
      refine z_iconst F (nI 5) dX6_spelled_29 rfl ?_
      refine z_lshl F dX6_spelled_30 ?_
      refine z_iload_n F dX6_spelled_31 rfl ?_
      refine z_bipush F (nI 96) dX6_spelled_32 rfl ?_
      refine z_isubN F (by omega) dX6_spelled_34 ?_
      refine z_i2l F dX6_spelled_35 ?_
      refine z_lor F dX6_spelled_36 ?_
      refine z_lstore F dX6_spelled_37 (Nat.le_of_ble_eq_true rfl) ?_
      refine z_leq (L' := [_, _, _, _, _, _, _, _]) rfl ?_
      refine z_iload_n F dX6_spelled_39 rfl ?_
      refine z_if_eqN F (by omega) (tgt := 55) dX6_spelled_40 (by decide) (fun c_40 => ?_) (fun c_40 => ?_)
      · exact absurd c_40 (by omega)
      · refine z_lload F dX6_spelled_43 rfl ?_
        refine z_iconst F (nI 5) dX6_spelled_45 rfl ?_
        refine z_lshl F dX6_spelled_46 ?_
        refine z_iload_n F dX6_spelled_47 rfl ?_
        refine z_bipush F (nI 96) dX6_spelled_48 rfl ?_
        refine z_isubN F (by omega) dX6_spelled_50 ?_
        refine z_i2l F dX6_spelled_51 ?_
        refine z_lor F dX6_spelled_52 ?_
        refine z_lstore F dX6_spelled_53 (Nat.le_of_ble_eq_true rfl) ?_
        refine z_leq (L' := [_, _, _, _, _, _, _, _]) rfl ?_
        refine z_iload F dX6_spelled_55 rfl ?_
        refine z_if_eqN F (by omega) (tgt := 73) dX6_spelled_57 (by decide) (fun c_57 => ?_) (fun c_57 => ?_)
        · refine z_iload F dX6_spelled_73 rfl ?_
          refine z_if_eqN F (by omega) (tgt := 91) dX6_spelled_75 (by decide) (fun c_75 => ?_) (fun c_75 => ?_)
          · refine z_lload F dX6_spelled_91 rfl ?_
            exact z_lret F E rfl dX6_spelled_93 (by omega) (by omega) (⟨congrArg (fun v : Int64 => (some (zl v) : Option zV)) (by decide +kernel), rfl⟩)
          · exact absurd c_75 (by omega)
        · exact absurd c_57 (by omega)
theorem c_mspell4 : zCtr yX6_spelled cX6_spelled 8 (some .long) 0 0 0 [zi (nI 111), zi (nI 102), zi (nI 102), zi (nI 0), zi (nI 0), zi (nI 0)] [zH] (fun r w => r = some (zl (lN 15558)) ∧ w = [zH]) zNx := by
  refine z_start (by decide) [some (zi (nI 111)), some (zi (nI 102)), some (zi (nI 102)), some (zi (nI 0)), some (zi (nI 0)), some (zi (nI 0)), none, none] rfl (fun _ => Nat.le_of_ble_eq_true rfl) (fun _ => rfl) (fun X F E hno hin => ?_)
  refine z_iload_n F dX6_spelled_0 rfl ?_
  refine z_bipush F (nI 96) dX6_spelled_1 rfl ?_
  refine z_isubN F (by omega) dX6_spelled_3 ?_
  refine z_i2l F dX6_spelled_4 ?_
  refine z_lstore F dX6_spelled_5 (Nat.le_of_ble_eq_true rfl) ?_
  refine z_leq (L' := [_, _, _, _, _, _, _, _]) rfl ?_
  refine z_iload_n F dX6_spelled_7 rfl ?_
  refine z_if_eqN F (by omega) (tgt := 23) dX6_spelled_8 (by decide) (fun c_8 => ?_) (fun c_8 => ?_)
  · exact absurd c_8 (by omega)
  · refine z_lload F dX6_spelled_11 rfl ?_
    refine z_iconst F (nI 5) dX6_spelled_13 rfl ?_
    refine z_lshl F dX6_spelled_14 ?_
    refine z_iload_n F dX6_spelled_15 rfl ?_
    refine z_bipush F (nI 96) dX6_spelled_16 rfl ?_
    refine z_isubN F (by omega) dX6_spelled_18 ?_
    refine z_i2l F dX6_spelled_19 ?_
    refine z_lor F dX6_spelled_20 ?_
    refine z_lstore F dX6_spelled_21 (Nat.le_of_ble_eq_true rfl) ?_
    refine z_leq (L' := [_, _, _, _, _, _, _, _]) rfl ?_
    refine z_iload_n F dX6_spelled_23 rfl ?_
    refine z_if_eqN F (by omega) (tgt := 39) dX6_spelled_24 (by decide) (fun c_24 => ?_) (fun c_24 => ?_)
    · exact absurd c_24 (by omega)
    · refine z_lload F dX6_spelled_27 rfl ?_
      refine z_iconst F (nI 5) dX6_spelled_29 rfl ?_
      refine z_lshl F dX6_spelled_30 ?_
      refine z_iload_n F dX6_spelled_31 rfl ?_
      refine z_bipush F (nI 96) dX6_spelled_32 rfl ?_
      refine z_isubN F (by omega) dX6_spelled_34 ?_
      refine z_i2l F dX6_spelled_35 ?_
      refine z_lor F dX6_spelled_36 ?_
      refine z_lstore F dX6_spelled_37 (Nat.le_of_ble_eq_true rfl) ?_
      refine z_leq (L' := [_, _, _, _, _, _, _, _]) rfl ?_
      refine z_iload_n F dX6_spelled_39 rfl ?_
      refine z_if_eqN F (by omega) (tgt := 55) dX6_spelled_40 (by decide) (fun c_40 => ?_) (fun c_40 => ?_)
      · refine z_iload F dX6_spelled_55 rfl ?_
        refine z_if_eqN F (by omega) (tgt := 73) dX6_spelled_57 (by decide) (fun c_57 => ?_) (fun c_57 => ?_)
        · refine z_iload F dX6_spelled_73 rfl ?_
          refine z_if_eqN F (by omega) (tgt := 91) dX6_spelled_75 (by decide) (fun c_75 => ?_) (fun c_75 => ?_)
          · refine z_lload F dX6_spelled_91 rfl ?_
            exact z_lret F E rfl dX6_spelled_93 (by omega) (by omega) (⟨congrArg (fun v : Int64 => (some (zl v) : Option zV)) (by decide +kernel), rfl⟩)
          · exact absurd c_75 (by omega)
        · exact absurd c_57 (by omega)
      · exact absurd c_40 (by omega)
theorem c_mspell5 : zCtr yX6_spelled cX6_spelled 8 (some .long) 0 0 0 [zi (nI 107), zi (nI 110), zi (nI 111), zi (nI 116), zi (nI 115), zi (nI 0)] [zH] (fun r w => r = some (zl (lN 12009107)) ∧ w = [zH]) zNx := by
  refine z_start (by decide) [some (zi (nI 107)), some (zi (nI 110)), some (zi (nI 111)), some (zi (nI 116)), some (zi (nI 115)), some (zi (nI 0)), none, none] rfl (fun _ => Nat.le_of_ble_eq_true rfl) (fun _ => rfl) (fun X F E hno hin => ?_)
  refine z_iload_n F dX6_spelled_0 rfl ?_
  refine z_bipush F (nI 96) dX6_spelled_1 rfl ?_
  refine z_isubN F (by omega) dX6_spelled_3 ?_
  refine z_i2l F dX6_spelled_4 ?_
  refine z_lstore F dX6_spelled_5 (Nat.le_of_ble_eq_true rfl) ?_
  refine z_leq (L' := [_, _, _, _, _, _, _, _]) rfl ?_
  refine z_iload_n F dX6_spelled_7 rfl ?_
  refine z_if_eqN F (by omega) (tgt := 23) dX6_spelled_8 (by decide) (fun c_8 => ?_) (fun c_8 => ?_)
  · exact absurd c_8 (by omega)
  · refine z_lload F dX6_spelled_11 rfl ?_
    refine z_iconst F (nI 5) dX6_spelled_13 rfl ?_
    refine z_lshl F dX6_spelled_14 ?_
    refine z_iload_n F dX6_spelled_15 rfl ?_
    refine z_bipush F (nI 96) dX6_spelled_16 rfl ?_
    refine z_isubN F (by omega) dX6_spelled_18 ?_
    refine z_i2l F dX6_spelled_19 ?_
    refine z_lor F dX6_spelled_20 ?_
    refine z_lstore F dX6_spelled_21 (Nat.le_of_ble_eq_true rfl) ?_
    refine z_leq (L' := [_, _, _, _, _, _, _, _]) rfl ?_
    refine z_iload_n F dX6_spelled_23 rfl ?_
    refine z_if_eqN F (by omega) (tgt := 39) dX6_spelled_24 (by decide) (fun c_24 => ?_) (fun c_24 => ?_)
    · exact absurd c_24 (by omega)
    · refine z_lload F dX6_spelled_27 rfl ?_
      refine z_iconst F (nI 5) dX6_spelled_29 rfl ?_
      refine z_lshl F dX6_spelled_30 ?_
      refine z_iload_n F dX6_spelled_31 rfl ?_
      refine z_bipush F (nI 96) dX6_spelled_32 rfl ?_
      refine z_isubN F (by omega) dX6_spelled_34 ?_
      refine z_i2l F dX6_spelled_35 ?_
      refine z_lor F dX6_spelled_36 ?_
      refine z_lstore F dX6_spelled_37 (Nat.le_of_ble_eq_true rfl) ?_
      refine z_leq (L' := [_, _, _, _, _, _, _, _]) rfl ?_
      refine z_iload_n F dX6_spelled_39 rfl ?_
      refine z_if_eqN F (by omega) (tgt := 55) dX6_spelled_40 (by decide) (fun c_40 => ?_) (fun c_40 => ?_)
      · exact absurd c_40 (by omega)
      · refine z_lload F dX6_spelled_43 rfl ?_
        refine z_iconst F (nI 5) dX6_spelled_45 rfl ?_
        refine z_lshl F dX6_spelled_46 ?_
        refine z_iload_n F dX6_spelled_47 rfl ?_
        refine z_bipush F (nI 96) dX6_spelled_48 rfl ?_
        refine z_isubN F (by omega) dX6_spelled_50 ?_
        refine z_i2l F dX6_spelled_51 ?_
        refine z_lor F dX6_spelled_52 ?_
        refine z_lstore F dX6_spelled_53 (Nat.le_of_ble_eq_true rfl) ?_
        refine z_leq (L' := [_, _, _, _, _, _, _, _]) rfl ?_
        refine z_iload F dX6_spelled_55 rfl ?_
        refine z_if_eqN F (by omega) (tgt := 73) dX6_spelled_57 (by decide) (fun c_57 => ?_) (fun c_57 => ?_)
        · exact absurd c_57 (by omega)
        · refine z_lload F dX6_spelled_60 rfl ?_
          refine z_iconst F (nI 5) dX6_spelled_62 rfl ?_
          refine z_lshl F dX6_spelled_63 ?_
          refine z_iload F dX6_spelled_64 rfl ?_
          refine z_bipush F (nI 96) dX6_spelled_66 rfl ?_
          refine z_isubN F (by omega) dX6_spelled_68 ?_
          refine z_i2l F dX6_spelled_69 ?_
          refine z_lor F dX6_spelled_70 ?_
          refine z_lstore F dX6_spelled_71 (Nat.le_of_ble_eq_true rfl) ?_
          refine z_leq (L' := [_, _, _, _, _, _, _, _]) rfl ?_
          refine z_iload F dX6_spelled_73 rfl ?_
          refine z_if_eqN F (by omega) (tgt := 91) dX6_spelled_75 (by decide) (fun c_75 => ?_) (fun c_75 => ?_)
          · refine z_lload F dX6_spelled_91 rfl ?_
            exact z_lret F E rfl dX6_spelled_93 (by omega) (by omega) (⟨congrArg (fun v : Int64 => (some (zl v) : Option zV)) (by decide +kernel), rfl⟩)
          · exact absurd c_75 (by omega)
theorem c_mspell6 : zCtr yX6_spelled cX6_spelled 8 (some .long) 0 0 0 [zi (nI 100), zi (nI 101), zi (nI 103), zi (nI 114), zi (nI 101), zi (nI 101)] [zH] (fun r w => r = some (zl (lN 139708581)) ∧ w = [zH]) zNx := by
  refine z_start (by decide) [some (zi (nI 100)), some (zi (nI 101)), some (zi (nI 103)), some (zi (nI 114)), some (zi (nI 101)), some (zi (nI 101)), none, none] rfl (fun _ => Nat.le_of_ble_eq_true rfl) (fun _ => rfl) (fun X F E hno hin => ?_)
  refine z_iload_n F dX6_spelled_0 rfl ?_
  refine z_bipush F (nI 96) dX6_spelled_1 rfl ?_
  refine z_isubN F (by omega) dX6_spelled_3 ?_
  refine z_i2l F dX6_spelled_4 ?_
  refine z_lstore F dX6_spelled_5 (Nat.le_of_ble_eq_true rfl) ?_
  refine z_leq (L' := [_, _, _, _, _, _, _, _]) rfl ?_
  refine z_iload_n F dX6_spelled_7 rfl ?_
  refine z_if_eqN F (by omega) (tgt := 23) dX6_spelled_8 (by decide) (fun c_8 => ?_) (fun c_8 => ?_)
  · exact absurd c_8 (by omega)
  · refine z_lload F dX6_spelled_11 rfl ?_
    refine z_iconst F (nI 5) dX6_spelled_13 rfl ?_
    refine z_lshl F dX6_spelled_14 ?_
    refine z_iload_n F dX6_spelled_15 rfl ?_
    refine z_bipush F (nI 96) dX6_spelled_16 rfl ?_
    refine z_isubN F (by omega) dX6_spelled_18 ?_
    refine z_i2l F dX6_spelled_19 ?_
    refine z_lor F dX6_spelled_20 ?_
    refine z_lstore F dX6_spelled_21 (Nat.le_of_ble_eq_true rfl) ?_
    refine z_leq (L' := [_, _, _, _, _, _, _, _]) rfl ?_
    refine z_iload_n F dX6_spelled_23 rfl ?_
    refine z_if_eqN F (by omega) (tgt := 39) dX6_spelled_24 (by decide) (fun c_24 => ?_) (fun c_24 => ?_)
    · exact absurd c_24 (by omega)
    · refine z_lload F dX6_spelled_27 rfl ?_
      refine z_iconst F (nI 5) dX6_spelled_29 rfl ?_
      refine z_lshl F dX6_spelled_30 ?_
      refine z_iload_n F dX6_spelled_31 rfl ?_
      refine z_bipush F (nI 96) dX6_spelled_32 rfl ?_
      refine z_isubN F (by omega) dX6_spelled_34 ?_
      refine z_i2l F dX6_spelled_35 ?_
      refine z_lor F dX6_spelled_36 ?_
      refine z_lstore F dX6_spelled_37 (Nat.le_of_ble_eq_true rfl) ?_
      refine z_leq (L' := [_, _, _, _, _, _, _, _]) rfl ?_
      refine z_iload_n F dX6_spelled_39 rfl ?_
      refine z_if_eqN F (by omega) (tgt := 55) dX6_spelled_40 (by decide) (fun c_40 => ?_) (fun c_40 => ?_)
      · exact absurd c_40 (by omega)
      · refine z_lload F dX6_spelled_43 rfl ?_
        refine z_iconst F (nI 5) dX6_spelled_45 rfl ?_
        refine z_lshl F dX6_spelled_46 ?_
        refine z_iload_n F dX6_spelled_47 rfl ?_
        refine z_bipush F (nI 96) dX6_spelled_48 rfl ?_
        refine z_isubN F (by omega) dX6_spelled_50 ?_
        refine z_i2l F dX6_spelled_51 ?_
        refine z_lor F dX6_spelled_52 ?_
        refine z_lstore F dX6_spelled_53 (Nat.le_of_ble_eq_true rfl) ?_
        refine z_leq (L' := [_, _, _, _, _, _, _, _]) rfl ?_
        refine z_iload F dX6_spelled_55 rfl ?_
        refine z_if_eqN F (by omega) (tgt := 73) dX6_spelled_57 (by decide) (fun c_57 => ?_) (fun c_57 => ?_)
        · exact absurd c_57 (by omega)
        · refine z_lload F dX6_spelled_60 rfl ?_
          refine z_iconst F (nI 5) dX6_spelled_62 rfl ?_
          refine z_lshl F dX6_spelled_63 ?_
          refine z_iload F dX6_spelled_64 rfl ?_
          refine z_bipush F (nI 96) dX6_spelled_66 rfl ?_
          refine z_isubN F (by omega) dX6_spelled_68 ?_
          refine z_i2l F dX6_spelled_69 ?_
          refine z_lor F dX6_spelled_70 ?_
          refine z_lstore F dX6_spelled_71 (Nat.le_of_ble_eq_true rfl) ?_
          refine z_leq (L' := [_, _, _, _, _, _, _, _]) rfl ?_
          refine z_iload F dX6_spelled_73 rfl ?_
          refine z_if_eqN F (by omega) (tgt := 91) dX6_spelled_75 (by decide) (fun c_75 => ?_) (fun c_75 => ?_)
          · exact absurd c_75 (by omega)
          · refine z_lload F dX6_spelled_78 rfl ?_
            refine z_iconst F (nI 5) dX6_spelled_80 rfl ?_
            refine z_lshl F dX6_spelled_81 ?_
            refine z_iload F dX6_spelled_82 rfl ?_
            refine z_bipush F (nI 96) dX6_spelled_84 rfl ?_
            refine z_isubN F (by omega) dX6_spelled_86 ?_
            refine z_i2l F dX6_spelled_87 ?_
            refine z_lor F dX6_spelled_88 ?_
            refine z_lstore F dX6_spelled_89 (Nat.le_of_ble_eq_true rfl) ?_
            refine z_leq (L' := [_, _, _, _, _, _, _, _]) rfl ?_
            refine z_lload F dX6_spelled_91 rfl ?_
            exact z_lret F E rfl dX6_spelled_93 (by omega) (by omega) (⟨congrArg (fun v : Int64 => (some (zl v) : Option zV)) (by decide +kernel), rfl⟩)
noncomputable def kwR (tb : Nat → Nat) (z b : Nat) : Int32 := dI (kwI tb z b)
theorem c_mknown (F0 : Nat → Int32) (G : Nat → Int64) (A : Nat → Nat → Int32) (B : Nat → Nat → Int64) (tb : Nat → Nat) (z b : Nat) (hz : z ≤ 400) (hb : b ≤ z) (hT : Tk tb z F0 G b) : zCtr yX6_knownWord cX6_knownWord 1 (some .int) 1 0 0 [zr 1 0] [zH, zG F0 G A B] (fun r w => r = some (zi (kwR tb z b)) ∧ w = [zH, zG F0 G A B]) zNx := by
  refine z_start (by decide) [some (zr 1 0)] rfl (fun _ => Nat.le_of_ble_eq_true rfl) (fun _ => rfl) (fun X F E hno hin => ?_)
  obtain ⟨t11, t12, t13, t14, t15, t16, t17⟩ := hT
  have hkd := kd_lt tb z b
  have he := (en_ge tb z b).2 hb
  have hno : ¬ (kd tb z b = 1 ∧ en tb z b - b ≤ 6) → kwR tb z b = -1 := fun q => by
    have : kwI tb z b = none := by
      cases hk : kwI tb z b with
      | none => rfl
      | some i =>
        obtain ⟨a, w⟩ := kwI_some.mp hk
        have := (isW_iff a).mp w
        exact absurd ⟨this.1, this.2.1⟩ q
    unfold kwR; rw [this]; rfl
  have hyes : kd tb z b = 1 → en tb z b - b ≤ 6 → ∀ i, i < 7 → (lg_cmp (G 17) (lN (kwC i)) = 0 ↔ isW tb z b i) := fun q1 q2 i hi => by
    have hw := wcd_lt tb b (en tb z b - b) (tk_L q1).2.2.2
    have h5 : 32 ^ min (en tb z b - b) 7 ≤ 32 ^ 7 := Nat.pow_le_pow_right (by decide) (by omega)
    have hc : kwC i < 2 ^ 40 := (by decide : ∀ i, i < 7 → kwC i < 2 ^ 40) i hi
    rw [lcE, t17 q1, lN_ij (by omega) (by omega), isW_iff hi]
    exact ⟨fun z => ⟨q1, q2, z⟩, fun z => z.2.2⟩
  have hk : ∀ i, i < 7 → isW tb z b i → kwR tb z b = nI i := fun i hi w => by
    unfold kwR; rw [kwI_some.mpr ⟨hi, w⟩]; rfl
  refine z_aload_n F dX6_knownWord_0 rfl ?_
  refine z_mi F rfl 13 rfl (Nat.le_of_ble_eq_true rfl) rfl q1493 dX6_knownWord_1 ?_
  refine z_ieq (t13) ?_
  refine z_iconst F (nI 1) dX6_knownWord_4 rfl ?_
  refine z_icmp_neN F (by omega) (by omega) (tgt := 17) dX6_knownWord_5 (by decide) (fun c_5 => ?_) (fun c_5 => ?_)
  · refine z_iconst F (-1) dX6_knownWord_17 rfl ?_
    exact z_iret F E rfl dX6_knownWord_18 (by omega) (by omega) (⟨by rw [hno (fun q => by omega)], rfl⟩)
  · refine z_aload_n F dX6_knownWord_8 rfl ?_
    refine z_mi F rfl 15 rfl (Nat.le_of_ble_eq_true rfl) rfl q1495 dX6_knownWord_9 ?_
    refine z_ieq (t15) ?_
    refine z_bipush F (nI 6) dX6_knownWord_12 rfl ?_
    refine z_icmp_leN F (by omega) (by omega) (tgt := 19) dX6_knownWord_14 (by decide) (fun c_14 => ?_) (fun c_14 => ?_)
    · have hy := hyes (by omega) c_14
      refine z_aload_n F dX6_knownWord_19 rfl ?_
      refine z_ml F rfl 17 rfl (Nat.le_of_ble_eq_true rfl) rfl q1497 dX6_knownWord_20 ?_
      refine z_bipush F (nI 114) dX6_knownWord_23 rfl ?_
      refine z_bipush F (nI 111) dX6_knownWord_25 rfl ?_
      refine z_bipush F (nI 119) dX6_knownWord_27 rfl ?_
      refine z_iconst F (nI 0) dX6_knownWord_29 rfl ?_
      refine z_iconst F (nI 0) dX6_knownWord_30 rfl ?_
      refine z_iconst F (nI 0) dX6_knownWord_31 rfl ?_
      refine z_callS F (c_mspell0) 6 rfl (lw_S q1797 q1798 q117 q1799) (by decide +kernel) ⟨Nat.le_of_ble_eq_true rfl, Nat.le_of_ble_eq_true rfl⟩ ⟨by omega, by omega⟩ [0] 2 ⟨rfl, rfl, rfl, ⟨Or.inl rfl, trivial⟩⟩ (fun h => nomatch h) (Nat.le_of_ble_eq_true rfl) ⟨⟨Or.inr trivial, Or.inr trivial, trivial⟩, rfl, rfl, rfl, Nat.le_of_ble_eq_true rfl⟩ rfl rfl dX6_knownWord_32 (fun r_32 w_32 hp => ?_) (fun _ _ h => h.elim)
      obtain ⟨rfl, rfl⟩ := hp
      refine z_weq (w' := [zH, zG _ _ _ _]) rfl ?_
      refine z_seq (S' := zl _ :: _) rfl ?_
      refine z_lcmp F dX6_knownWord_35 ?_
      refine z_if_ne F (tgt := 41) dX6_knownWord_36 (by decide) (fun c_36 => ?_) (fun c_36 => ?_)
      · refine z_aload_n F dX6_knownWord_41 rfl ?_
        refine z_ml F rfl 17 rfl (Nat.le_of_ble_eq_true rfl) rfl q1497 dX6_knownWord_42 ?_
        refine z_bipush F (nI 114) dX6_knownWord_45 rfl ?_
        refine z_bipush F (nI 105) dX6_knownWord_47 rfl ?_
        refine z_bipush F (nI 110) dX6_knownWord_49 rfl ?_
        refine z_bipush F (nI 103) dX6_knownWord_51 rfl ?_
        refine z_iconst F (nI 0) dX6_knownWord_53 rfl ?_
        refine z_iconst F (nI 0) dX6_knownWord_54 rfl ?_
        refine z_callS F (c_mspell1) 6 rfl (lw_S q1797 q1798 q117 q1799) (by decide +kernel) ⟨Nat.le_of_ble_eq_true rfl, Nat.le_of_ble_eq_true rfl⟩ ⟨by omega, by omega⟩ [0] 2 ⟨rfl, rfl, rfl, ⟨Or.inl rfl, trivial⟩⟩ (fun h => nomatch h) (Nat.le_of_ble_eq_true rfl) ⟨⟨Or.inr trivial, Or.inr trivial, trivial⟩, rfl, rfl, rfl, Nat.le_of_ble_eq_true rfl⟩ rfl rfl dX6_knownWord_55 (fun r_55 w_55 hp => ?_) (fun _ _ h => h.elim)
        obtain ⟨rfl, rfl⟩ := hp
        refine z_weq (w' := [zH, zG _ _ _ _]) rfl ?_
        refine z_seq (S' := zl _ :: _) rfl ?_
        refine z_lcmp F dX6_knownWord_58 ?_
        refine z_if_ne F (tgt := 64) dX6_knownWord_59 (by decide) (fun c_59 => ?_) (fun c_59 => ?_)
        · refine z_aload_n F dX6_knownWord_64 rfl ?_
          refine z_ml F rfl 17 rfl (Nat.le_of_ble_eq_true rfl) rfl q1497 dX6_knownWord_65 ?_
          refine z_bipush F (nI 97) dX6_knownWord_68 rfl ?_
          refine z_bipush F (nI 108) dX6_knownWord_70 rfl ?_
          refine z_bipush F (nI 108) dX6_knownWord_72 rfl ?_
          refine z_iconst F (nI 0) dX6_knownWord_74 rfl ?_
          refine z_iconst F (nI 0) dX6_knownWord_75 rfl ?_
          refine z_iconst F (nI 0) dX6_knownWord_76 rfl ?_
          refine z_callS F (c_mspell2) 6 rfl (lw_S q1797 q1798 q117 q1799) (by decide +kernel) ⟨Nat.le_of_ble_eq_true rfl, Nat.le_of_ble_eq_true rfl⟩ ⟨by omega, by omega⟩ [0] 2 ⟨rfl, rfl, rfl, ⟨Or.inl rfl, trivial⟩⟩ (fun h => nomatch h) (Nat.le_of_ble_eq_true rfl) ⟨⟨Or.inr trivial, Or.inr trivial, trivial⟩, rfl, rfl, rfl, Nat.le_of_ble_eq_true rfl⟩ rfl rfl dX6_knownWord_77 (fun r_77 w_77 hp => ?_) (fun _ _ h => h.elim)
          obtain ⟨rfl, rfl⟩ := hp
          refine z_weq (w' := [zH, zG _ _ _ _]) rfl ?_
          refine z_seq (S' := zl _ :: _) rfl ?_
          refine z_lcmp F dX6_knownWord_80 ?_
          refine z_if_ne F (tgt := 86) dX6_knownWord_81 (by decide) (fun c_81 => ?_) (fun c_81 => ?_)
          · refine z_aload_n F dX6_knownWord_86 rfl ?_
            refine z_ml F rfl 17 rfl (Nat.le_of_ble_eq_true rfl) rfl q1497 dX6_knownWord_87 ?_
            refine z_bipush F (nI 115) dX6_knownWord_90 rfl ?_
            refine z_bipush F (nI 116) dX6_knownWord_92 rfl ?_
            refine z_bipush F (nI 97) dX6_knownWord_94 rfl ?_
            refine z_bipush F (nI 114) dX6_knownWord_96 rfl ?_
            refine z_iconst F (nI 0) dX6_knownWord_98 rfl ?_
            refine z_iconst F (nI 0) dX6_knownWord_99 rfl ?_
            refine z_callS F (c_mspell3) 6 rfl (lw_S q1797 q1798 q117 q1799) (by decide +kernel) ⟨Nat.le_of_ble_eq_true rfl, Nat.le_of_ble_eq_true rfl⟩ ⟨by omega, by omega⟩ [0] 2 ⟨rfl, rfl, rfl, ⟨Or.inl rfl, trivial⟩⟩ (fun h => nomatch h) (Nat.le_of_ble_eq_true rfl) ⟨⟨Or.inr trivial, Or.inr trivial, trivial⟩, rfl, rfl, rfl, Nat.le_of_ble_eq_true rfl⟩ rfl rfl dX6_knownWord_100 (fun r_100 w_100 hp => ?_) (fun _ _ h => h.elim)
            obtain ⟨rfl, rfl⟩ := hp
            refine z_weq (w' := [zH, zG _ _ _ _]) rfl ?_
            refine z_seq (S' := zl _ :: _) rfl ?_
            refine z_lcmp F dX6_knownWord_103 ?_
            refine z_if_ne F (tgt := 109) dX6_knownWord_104 (by decide) (fun c_104 => ?_) (fun c_104 => ?_)
            · refine z_aload_n F dX6_knownWord_109 rfl ?_
              refine z_ml F rfl 17 rfl (Nat.le_of_ble_eq_true rfl) rfl q1497 dX6_knownWord_110 ?_
              refine z_bipush F (nI 111) dX6_knownWord_113 rfl ?_
              refine z_bipush F (nI 102) dX6_knownWord_115 rfl ?_
              refine z_bipush F (nI 102) dX6_knownWord_117 rfl ?_
              refine z_iconst F (nI 0) dX6_knownWord_119 rfl ?_
              refine z_iconst F (nI 0) dX6_knownWord_120 rfl ?_
              refine z_iconst F (nI 0) dX6_knownWord_121 rfl ?_
              refine z_callS F (c_mspell4) 6 rfl (lw_S q1797 q1798 q117 q1799) (by decide +kernel) ⟨Nat.le_of_ble_eq_true rfl, Nat.le_of_ble_eq_true rfl⟩ ⟨by omega, by omega⟩ [0] 2 ⟨rfl, rfl, rfl, ⟨Or.inl rfl, trivial⟩⟩ (fun h => nomatch h) (Nat.le_of_ble_eq_true rfl) ⟨⟨Or.inr trivial, Or.inr trivial, trivial⟩, rfl, rfl, rfl, Nat.le_of_ble_eq_true rfl⟩ rfl rfl dX6_knownWord_122 (fun r_122 w_122 hp => ?_) (fun _ _ h => h.elim)
              obtain ⟨rfl, rfl⟩ := hp
              refine z_weq (w' := [zH, zG _ _ _ _]) rfl ?_
              refine z_seq (S' := zl _ :: _) rfl ?_
              refine z_lcmp F dX6_knownWord_125 ?_
              refine z_if_ne F (tgt := 131) dX6_knownWord_126 (by decide) (fun c_126 => ?_) (fun c_126 => ?_)
              · refine z_aload_n F dX6_knownWord_131 rfl ?_
                refine z_ml F rfl 17 rfl (Nat.le_of_ble_eq_true rfl) rfl q1497 dX6_knownWord_132 ?_
                refine z_bipush F (nI 107) dX6_knownWord_135 rfl ?_
                refine z_bipush F (nI 110) dX6_knownWord_137 rfl ?_
                refine z_bipush F (nI 111) dX6_knownWord_139 rfl ?_
                refine z_bipush F (nI 116) dX6_knownWord_141 rfl ?_
                refine z_bipush F (nI 115) dX6_knownWord_143 rfl ?_
                refine z_iconst F (nI 0) dX6_knownWord_145 rfl ?_
                refine z_callS F (c_mspell5) 6 rfl (lw_S q1797 q1798 q117 q1799) (by decide +kernel) ⟨Nat.le_of_ble_eq_true rfl, Nat.le_of_ble_eq_true rfl⟩ ⟨by omega, by omega⟩ [0] 2 ⟨rfl, rfl, rfl, ⟨Or.inl rfl, trivial⟩⟩ (fun h => nomatch h) (Nat.le_of_ble_eq_true rfl) ⟨⟨Or.inr trivial, Or.inr trivial, trivial⟩, rfl, rfl, rfl, Nat.le_of_ble_eq_true rfl⟩ rfl rfl dX6_knownWord_146 (fun r_146 w_146 hp => ?_) (fun _ _ h => h.elim)
                obtain ⟨rfl, rfl⟩ := hp
                refine z_weq (w' := [zH, zG _ _ _ _]) rfl ?_
                refine z_seq (S' := zl _ :: _) rfl ?_
                refine z_lcmp F dX6_knownWord_149 ?_
                refine z_if_ne F (tgt := 155) dX6_knownWord_150 (by decide) (fun c_150 => ?_) (fun c_150 => ?_)
                · refine z_aload_n F dX6_knownWord_155 rfl ?_
                  refine z_ml F rfl 17 rfl (Nat.le_of_ble_eq_true rfl) rfl q1497 dX6_knownWord_156 ?_
                  refine z_bipush F (nI 100) dX6_knownWord_159 rfl ?_
                  refine z_bipush F (nI 101) dX6_knownWord_161 rfl ?_
                  refine z_bipush F (nI 103) dX6_knownWord_163 rfl ?_
                  refine z_bipush F (nI 114) dX6_knownWord_165 rfl ?_
                  refine z_bipush F (nI 101) dX6_knownWord_167 rfl ?_
                  refine z_bipush F (nI 101) dX6_knownWord_169 rfl ?_
                  refine z_callS F (c_mspell6) 6 rfl (lw_S q1797 q1798 q117 q1799) (by decide +kernel) ⟨Nat.le_of_ble_eq_true rfl, Nat.le_of_ble_eq_true rfl⟩ ⟨by omega, by omega⟩ [0] 2 ⟨rfl, rfl, rfl, ⟨Or.inl rfl, trivial⟩⟩ (fun h => nomatch h) (Nat.le_of_ble_eq_true rfl) ⟨⟨Or.inr trivial, Or.inr trivial, trivial⟩, rfl, rfl, rfl, Nat.le_of_ble_eq_true rfl⟩ rfl rfl dX6_knownWord_171 (fun r_171 w_171 hp => ?_) (fun _ _ h => h.elim)
                  obtain ⟨rfl, rfl⟩ := hp
                  refine z_weq (w' := [zH, zG _ _ _ _]) rfl ?_
                  refine z_seq (S' := zl _ :: _) rfl ?_
                  refine z_lcmp F dX6_knownWord_174 ?_
                  refine z_if_ne F (tgt := 183) dX6_knownWord_175 (by decide) (fun c_175 => ?_) (fun c_175 => ?_)
                  · refine z_iconst F (-1) dX6_knownWord_183 rfl ?_
                    exact z_iret F E rfl dX6_knownWord_184 (by omega) (by omega) (⟨by
  have hn : kwI tb z b = none := by
    cases hq : kwI tb z b with
    | none => rfl
    | some i =>
      obtain ⟨a, w⟩ := kwI_some.mp hq
      have hz := (hy i a).mpr w
      exfalso
      rcases (show i = 0 ∨ i = 1 ∨ i = 2 ∨ i = 3 ∨ i = 4 ∨ i = 5 ∨ i = 6 by omega) with e | e | e | e | e | e | e <;> subst e
      · exact c_36 hz
      · exact c_59 hz
      · exact c_81 hz
      · exact c_104 hz
      · exact c_126 hz
      · exact c_150 hz
      · exact c_175 hz
  unfold kwR; rw [hn]; rfl, rfl⟩)
                  · refine z_bipush F (nI 6) dX6_knownWord_178 rfl ?_
                    refine z_goto F (tgt := 184) dX6_knownWord_180 (by decide) ?_
                    exact z_iret F E rfl dX6_knownWord_184 (by omega) (by omega) (⟨by rw [hk 6 (by omega) ((hy 6 (by omega)).mp c_175)] <;> rfl, rfl⟩)
                · refine z_iconst F (nI 5) dX6_knownWord_153 rfl ?_
                  exact z_iret F E rfl dX6_knownWord_154 (by omega) (by omega) (⟨by rw [hk 5 (by omega) ((hy 5 (by omega)).mp c_150)] <;> rfl, rfl⟩)
              · refine z_iconst F (nI 4) dX6_knownWord_129 rfl ?_
                exact z_iret F E rfl dX6_knownWord_130 (by omega) (by omega) (⟨by rw [hk 4 (by omega) ((hy 4 (by omega)).mp c_126)] <;> rfl, rfl⟩)
            · refine z_iconst F (nI 3) dX6_knownWord_107 rfl ?_
              exact z_iret F E rfl dX6_knownWord_108 (by omega) (by omega) (⟨by rw [hk 3 (by omega) ((hy 3 (by omega)).mp c_104)] <;> rfl, rfl⟩)
          · refine z_iconst F (nI 2) dX6_knownWord_84 rfl ?_
            exact z_iret F E rfl dX6_knownWord_85 (by omega) (by omega) (⟨by rw [hk 2 (by omega) ((hy 2 (by omega)).mp c_81)] <;> rfl, rfl⟩)
        · refine z_iconst F (nI 1) dX6_knownWord_62 rfl ?_
          exact z_iret F E rfl dX6_knownWord_63 (by omega) (by omega) (⟨by rw [hk 1 (by omega) ((hy 1 (by omega)).mp c_59)] <;> rfl, rfl⟩)
      · refine z_iconst F (nI 0) dX6_knownWord_39 rfl ?_
        exact z_iret F E rfl dX6_knownWord_40 (by omega) (by omega) (⟨by rw [hk 0 (by omega) ((hy 0 (by omega)).mp c_36)] <;> rfl, rfl⟩)
    · refine z_iconst F (-1) dX6_knownWord_17 rfl ?_
      exact z_iret F E rfl dX6_knownWord_18 (by omega) (by omega) (⟨by rw [hno (fun q => by omega)], rfl⟩)
abbrev LF : List Nat := [9, 10, 12, 13, 14, 15, 16, 19]
/-- the reference's state: at the token b, with the fault e -/
abbrev RS (tb : Nat → Nat) (z : Nat) (F : Nat → Int32) (G : Nat → Int64) (e b : Nat) : Prop := Tk tb z F G b ∧ F 9 = nI e ∧ (e ≠ 0 → F 10 = nI b) ∧ (e = 0 → F 10 = -1)
theorem c_misGood (F0 : Nat → Int32) (G : Nat → Int64) (A : Nat → Nat → Int32) (B : Nat → Nat → Int64) (e : Nat) (he : e ≤ 6) (h9 : F0 9 = nI e) : zCtr yX6_isGood cX6_isGood 1 (some .boolean) 0 0 0 [zr 1 0] [zH, zG F0 G A B] (fun r w => r = some (zi (bI (decide (e = 0)))) ∧ w = [zH, zG F0 G A B]) zNx := by
  refine z_start (by decide) [some (zr 1 0)] rfl (fun _ => Nat.le_of_ble_eq_true rfl) (fun _ => rfl) (fun X F E hno hin => ?_)
  refine z_aload_n F dX6_isGood_0 rfl ?_
  refine z_mi F rfl 9 rfl (Nat.le_of_ble_eq_true rfl) rfl q1489 dX6_isGood_1 ?_
  refine z_ieq (h9) ?_
  refine z_if_neN F (by omega) (tgt := 11) dX6_isGood_4 (by decide) (fun c_4 => ?_) (fun c_4 => ?_)
  · refine z_iconstB F false dX6_isGood_11 rfl ?_
    exact z_zret F E rfl (bI_nar _) dX6_isGood_12 (by omega) (by omega) (⟨by rw [decide_eq_false (by omega)], rfl⟩)
  · refine z_iconstB F true dX6_isGood_7 rfl ?_
    refine z_goto F (tgt := 12) dX6_isGood_8 (by decide) ?_
    exact z_zret F E rfl (bI_nar _) dX6_isGood_12 (by omega) (by omega) (⟨by rw [decide_eq_true (by omega)], rfl⟩)
theorem c_mwrong (F0 : Nat → Int32) (G : Nat → Int64) (A : Nat → Nat → Int32) (B : Nat → Nat → Int64) (tb : Nat → Nat) (z e b k : Nat) (he : e ≤ 6) (hS : RS tb z F0 G e b) (hk : k ≠ 0) : zCtr yX6_wrong cX6_wrong 2 none 0 0 0 [zr 1 0, zi (nI k)] [zH, zG F0 G A B] (fun r w => r = none ∧ ∃ F', w = [zH, zG F' G A B] ∧ RS tb z F' G (if e = 0 then k else e) b ∧ frm [9, 10] F0 F') zNx := by
  refine z_start (by decide) [some (zr 1 0), some (zi (nI k))] rfl (fun _ => Nat.le_of_ble_eq_true rfl) (fun _ => rfl) (fun X F E hno hin => ?_)
  obtain ⟨hT, h9, h10⟩ := hS
  refine z_aload_n F dX6_wrong_0 rfl ?_
  refine z_mi F rfl 9 rfl (Nat.le_of_ble_eq_true rfl) rfl q1489 dX6_wrong_1 ?_
  refine z_ieq (h9) ?_
  refine z_if_eqN F (by omega) (tgt := 8) dX6_wrong_4 (by decide) (fun c_4 => ?_) (fun c_4 => ?_)
  · refine z_aload_n F dX6_wrong_8 rfl ?_
    refine z_iload_n F dX6_wrong_9 rfl ?_
    refine z_pmi F rfl 9 rfl (Nat.le_of_ble_eq_true rfl) rfl q1489 rfl rfl rfl dX6_wrong_10 ?_
    refine z_weq (w' := [_, _]) rfl ?_
    refine z_aload_n F dX6_wrong_13 rfl ?_
    refine z_aload_n F dX6_wrong_14 rfl ?_
    refine z_mi F rfl 14 rfl (Nat.le_of_ble_eq_true rfl) rfl q1494 dX6_wrong_15 ?_
    refine z_ieq (hT.2.2.2.1) ?_
    refine z_pmi F rfl 10 rfl (Nat.le_of_ble_eq_true rfl) rfl q1490 rfl rfl rfl dX6_wrong_18 ?_
    refine z_weq (w' := [_, _]) rfl ?_
    exact z_vret F E rfl dX6_wrong_21 (by omega) (by omega) (⟨rfl, _, rfl, by rw [if_pos (by omega)]; exact ⟨hT, rfl, fun _ => rfl, fun w => absurd w hk⟩, frm_upd (frm_upd frm.rf (by decide)) (by decide)⟩)
  · exact z_vret F E rfl dX6_wrong_7 (by omega) (by omega) (⟨rfl, F0, rfl, by rw [if_neg (by omega)]; exact ⟨hT, h9, h10⟩, frm.rf⟩)
theorem c_mneed (F0 : Nat → Int32) (G : Nat → Int64) (A : Nat → Nat → Int32) (B : Nat → Nat → Int64) (tb : Nat → Nat) (z e b : Nat) (is : Bool) (hz : z ≤ 400) (hb : b ≤ z) (htb : ∀ i, tb i < 256) (ht : ∀ i, i < z → A 7 i = nI (tb i)) (he : e ≤ 6) (hS : RS tb z F0 G e b) : zCtr yX6_need cX6_need 2 none 2 0 0 [zr 1 0, zi (bI is)] [zH, zG F0 G A B] (fun r w => r = none ∧ ∃ F' G', w = [zH, zG F' G' A B] ∧ RS tb z F' G' (needS tb z e b is).1 (needS tb z e b is).2 ∧ frm LF F0 F' ∧ frm [17] G G') zNx := by
  refine z_start (by decide) [some (zr 1 0), some (zi (bI is))] rfl (fun _ => Nat.le_of_ble_eq_true rfl) (fun _ => rfl) (fun X F E hno hin => ?_)
  have hS0 := hS
  obtain ⟨hT, h9, h10⟩ := hS
  refine z_aload_n F dX6_need_0 rfl ?_
  refine z_callV F (c_misGood F0 G A B e he h9) 0 rfl (lw_V q1804 q1806 qs54 q117 q1807) (by decide +kernel) ⟨Nat.le_of_ble_eq_true rfl, Nat.le_of_ble_eq_true rfl⟩ ⟨by omega, by omega⟩ [0, 1] 2 ⟨rfl, rfl, rfl, ⟨Or.inl rfl, Or.inr rfl, trivial⟩⟩ (fun h => nomatch h) (Nat.le_of_ble_eq_true rfl) ⟨⟨Or.inr trivial, Or.inl rfl, trivial⟩, rfl, rfl, rfl, Nat.le_of_ble_eq_true rfl⟩ rfl zC6 (zat_G0 rfl) rfl dX6_need_1 (fun r_1 w_1 hp => ?_) (fun _ _ h => h.elim)
  obtain ⟨rfl, rfl⟩ := hp
  refine z_weq (w' := [zH, zG _ _ _ _]) rfl ?_
  refine z_seq (S' := zi _ :: _) rfl ?_
  refine z_if_neB F (tgt := 8) dX6_need_4 (by decide) (fun c_4 => ?_) (fun c_4 => ?_)
  · have e0 : e = 0 := of_decide_eq_true c_4
    refine z_iload_n F dX6_need_8 rfl ?_
    refine z_if_eqB F (tgt := 19) dX6_need_9 (by decide) (fun c_9 => ?_) (fun c_9 => ?_)
    · refine z_aload_n F dX6_need_19 rfl ?_
      refine z_iconst F (nI 1) dX6_need_20 rfl ?_
      refine z_callV F (c_mwrong F0 G A B tb z e b 1 he hS0 (by decide)) 1 rfl (lw_V q1808 q1810 qs55 q117 q1811) (by decide +kernel) ⟨Nat.le_of_ble_eq_true rfl, Nat.le_of_ble_eq_true rfl⟩ ⟨by omega, by omega⟩ [0, 1] 2 ⟨rfl, rfl, rfl, ⟨Or.inl rfl, Or.inr rfl, trivial⟩⟩ (fun h => nomatch h) (Nat.le_of_ble_eq_true rfl) ⟨⟨Or.inr trivial, Or.inl rfl, trivial⟩, rfl, rfl, rfl, Nat.le_of_ble_eq_true rfl⟩ rfl zC6 (zat_G0 rfl) rfl dX6_need_21 (fun r_21 w_21 hp => ?_) (fun _ _ h => h.elim)
      obtain ⟨rfl, F2, rfl, k1, k2⟩ := hp
      refine z_weq (w' := [zH, zG _ _ _ _]) rfl ?_
      refine z_seq (S' := []) rfl ?_
      exact z_vret F E rfl dX6_need_24 (by omega) (by omega) (⟨rfl, F2, G, rfl, by
  rw [needS, if_neg (by omega), if_neg (by rw [c_9]; decide)]
  rw [if_pos e0] at k1
  exact k1, k2.to (by decide), frm.rf⟩)
    · refine z_aload_n F dX6_need_12 rfl ?_
      refine z_callV F (c_mrdGo F0 G A B tb z (en tb z b) hz ((en_ge tb z b).2 hb) htb hT.1 hT.2.1 ht) 0 rfl (lw_V q1779 q1781 qs50 q117 q1782) (by decide +kernel) ⟨Nat.le_of_ble_eq_true rfl, Nat.le_of_ble_eq_true rfl⟩ ⟨by omega, by omega⟩ [0, 1] 2 ⟨rfl, rfl, rfl, ⟨Or.inl rfl, Or.inr rfl, trivial⟩⟩ (fun h => nomatch h) (Nat.le_of_ble_eq_true rfl) ⟨⟨Or.inr trivial, Or.inl rfl, trivial⟩, rfl, rfl, rfl, Nat.le_of_ble_eq_true rfl⟩ rfl zC6 (zat_G0 rfl) rfl dX6_need_13 (fun r_13 w_13 hp => ?_) (fun _ _ h => h.elim)
      obtain ⟨rfl, F2, G2, rfl, k1, k2, k3⟩ := hp
      refine z_weq (w' := [zH, zG _ _ _ _]) rfl ?_
      refine z_seq (S' := []) rfl ?_
      refine z_goto F (tgt := 24) dX6_need_16 (by decide) ?_
      exact z_vret F E rfl dX6_need_24 (by omega) (by omega) (⟨rfl, F2, G2, rfl, by
  rw [needS, if_neg (by omega), if_pos c_9]
  exact ⟨k1, by rw [k2.at 9 rfl, h9, e0], fun q => absurd rfl q, fun _ => (k2.at 10 rfl).trans (h10.2 e0)⟩, k2.to (by decide), k3⟩)
  · have e0 : ¬ e = 0 := of_decide_eq_false c_4
    exact z_vret F E rfl dX6_need_7 (by omega) (by omega) (⟨rfl, F0, G, rfl, by rw [needS, if_pos e0]; exact hS0, frm.rf, frm.rf⟩)
theorem c_mnumber (F0 : Nat → Int32) (G : Nat → Int64) (A : Nat → Nat → Int32) (B : Nat → Nat → Int64) (tb : Nat → Nat) (z e b lo hi : Nat) (hz : z ≤ 400) (hb : b ≤ z) (htb : ∀ i, tb i < 256) (ht : ∀ i, i < z → A 7 i = nI (tb i)) (he : e ≤ 6) (hS : RS tb z F0 G e b) (hlo : lo < 100) (hhi : hi < 100) : zCtr yX6_number cX6_number 4 (some .int) 2 0 0 [zr 1 0, zi (nI lo), zi (nI hi)] [zH, zG F0 G A B] (fun r w => ∃ v F' G', r = some (zi (nI v)) ∧ ((numS tb z lo hi e b).1 = 0 → v = rv tb z b) ∧ w = [zH, zG F' G' A B] ∧ RS tb z F' G' (numS tb z lo hi e b).1 (numS tb z lo hi e b).2 ∧ frm LF F0 F' ∧ frm [17] G G') zNx := by
  refine z_start (by decide) [some (zr 1 0), some (zi (nI lo)), some (zi (nI hi)), none] rfl (fun _ => Nat.le_of_ble_eq_true rfl) (fun _ => rfl) (fun X F E hno hin => ?_)
  have hS0 := hS
  obtain ⟨hT, h9, h10⟩ := hS
  have hkd := kd_lt tb z b
  have hen := (en_ge tb z b).2 hb
  have hvv : vv tb z b < 1000 := by
    unfold vv
    split
    · rename_i q
      exact rvd_999 (tk_D q).2.2.2
    · omega
  have at54 : e = 0 → ∀ (F1 : Nat → Int32) (e1 : Nat), e1 = nuE tb z lo hi b → RS tb z F1 G e1 b → frm [9, 10] F0 F1 → Z X [some (zr 1 0), none, none, none] [] [zH, zG F1 G A B] 0 0 54 := by
    intro e0 F1 e1 he1 hS1 hF
    have hle := nuE_le tb z lo hi b
    obtain ⟨kT, k9, k10⟩ := id hS1
    refine z_aload_n F dX6_number_54 rfl ?_
    refine z_mi F rfl 16 rfl (Nat.le_of_ble_eq_true rfl) rfl q1496 dX6_number_55 ?_
    refine z_ieq (kT.2.2.2.2.2.1) ?_
    refine z_istore_n F dX6_number_58 (Nat.le_of_ble_eq_true rfl) ?_
    refine z_leq (L' := [_, _, _, _]) rfl ?_
    refine z_aload_n F dX6_number_59 rfl ?_
    refine z_callV F (c_misGood F1 G A B e1 (by omega) k9) 0 rfl (lw_V q1804 q1806 qs54 q117 q1807) (by decide +kernel) ⟨Nat.le_of_ble_eq_true rfl, Nat.le_of_ble_eq_true rfl⟩ ⟨by omega, by omega⟩ [0, 1] 2 ⟨rfl, rfl, rfl, ⟨Or.inl rfl, Or.inr rfl, trivial⟩⟩ (fun h => nomatch h) (Nat.le_of_ble_eq_true rfl) ⟨⟨Or.inr trivial, Or.inl rfl, trivial⟩, rfl, rfl, rfl, Nat.le_of_ble_eq_true rfl⟩ rfl zC6 (zat_G0 rfl) rfl dX6_number_60 (fun r_60 w_60 hp => ?_) (fun _ _ h => h.elim)
    obtain ⟨rfl, rfl⟩ := hp
    refine z_weq (w' := [zH, zG _ _ _ _]) rfl ?_
    refine z_seq (S' := zi _ :: _) rfl ?_
    refine z_if_eqB F (tgt := 70) dX6_number_63 (by decide) (fun c_63 => ?_) (fun c_63 => ?_)
    · have q : ¬ e1 = 0 := of_decide_eq_false c_63
      refine z_iload_n F dX6_number_70 rfl ?_
      exact z_iret F E rfl dX6_number_71 (by omega) (by omega) (⟨vv tb z b, F1, G, rfl, fun w => by
  rw [numS, if_neg (by omega), if_neg (by omega)] at w
  exact absurd (he1.trans w) q, rfl, by
  rw [numS, if_neg (by omega), if_neg (by omega), ← he1]
  exact hS1, hF.to (by decide), frm.rf⟩)
    · have q : e1 = 0 := of_decide_eq_true c_63
      refine z_aload_n F dX6_number_66 rfl ?_
      refine z_callV F (c_mrdGo F1 G A B tb z (en tb z b) hz hen htb kT.1 kT.2.1 ht) 0 rfl (lw_V q1779 q1781 qs50 q117 q1782) (by decide +kernel) ⟨Nat.le_of_ble_eq_true rfl, Nat.le_of_ble_eq_true rfl⟩ ⟨by omega, by omega⟩ [0, 1] 2 ⟨rfl, rfl, rfl, ⟨Or.inl rfl, Or.inr rfl, trivial⟩⟩ (fun h => nomatch h) (Nat.le_of_ble_eq_true rfl) ⟨⟨Or.inr trivial, Or.inl rfl, trivial⟩, rfl, rfl, rfl, Nat.le_of_ble_eq_true rfl⟩ rfl zC6 (zat_G0 rfl) rfl dX6_number_67 (fun r_67 w_67 hp => ?_) (fun _ _ h => h.elim)
      obtain ⟨rfl, F2, G2, rfl, m1, m2, m3⟩ := hp
      refine z_weq (w' := [zH, zG _ _ _ _]) rfl ?_
      refine z_seq (S' := []) rfl ?_
      refine z_iload_n F dX6_number_70 rfl ?_
      exact z_iret F E rfl dX6_number_71 (by omega) (by omega) (⟨vv tb z b, F2, G2, rfl, fun _ => by
  have := (nuE_0 (he1.symm.trans q)).1
  rw [vv, if_pos this], rfl, by
  rw [numS, if_neg (by omega), if_pos (by omega)]
  exact ⟨m1, by rw [m2.at 9 rfl, k9, q], fun w => absurd rfl w, fun _ => (m2.at 10 rfl).trans (k10.2 q)⟩, hF.tr m2 (by decide) (by decide), m3⟩)
  have nu1 : ∀ q, kd tb z b = 2 → (q = 0 ↔ (en tb z b - b ≤ 3 ∧ lo ≤ rv tb z b ∧ rv tb z b ≤ hi)) → (q = 0 ∨ q = 2) → q = nuE tb z lo hi b := fun q hk h1 h2 => by
    unfold nuE
    rw [if_neg (by omega)]
    by_cases c : 3 < en tb z b - b ∨ rv tb z b < lo ∨ hi < rv tb z b
    · rw [if_pos c]
      rcases h2 with h2 | h2
      · have := h1.mp h2; omega
      · exact h2
    · rw [if_neg c]; exact h1.mpr ⟨by omega, by omega, by omega⟩
  have hvr : kd tb z b = 2 → vv tb z b = rv tb z b := fun q => if_pos q
  refine z_aload_n F dX6_number_0 rfl ?_
  refine z_callV F (c_misGood F0 G A B e he h9) 0 rfl (lw_V q1804 q1806 qs54 q117 q1807) (by decide +kernel) ⟨Nat.le_of_ble_eq_true rfl, Nat.le_of_ble_eq_true rfl⟩ ⟨by omega, by omega⟩ [0, 1] 2 ⟨rfl, rfl, rfl, ⟨Or.inl rfl, Or.inr rfl, trivial⟩⟩ (fun h => nomatch h) (Nat.le_of_ble_eq_true rfl) ⟨⟨Or.inr trivial, Or.inl rfl, trivial⟩, rfl, rfl, rfl, Nat.le_of_ble_eq_true rfl⟩ rfl zC6 (zat_G0 rfl) rfl dX6_number_1 (fun r_1 w_1 hp => ?_) (fun _ _ h => h.elim)
  obtain ⟨rfl, rfl⟩ := hp
  refine z_weq (w' := [zH, zG _ _ _ _]) rfl ?_
  refine z_seq (S' := zi _ :: _) rfl ?_
  refine z_if_neB F (tgt := 9) dX6_number_4 (by decide) (fun c_4 => ?_) (fun c_4 => ?_)
  · have e0 : e = 0 := of_decide_eq_true c_4
    refine z_aload_n F dX6_number_9 rfl ?_
    refine z_mi F rfl 13 rfl (Nat.le_of_ble_eq_true rfl) rfl q1493 dX6_number_10 ?_
    refine z_ieq (hT.2.2.1) ?_
    refine z_iconst F (nI 2) dX6_number_13 rfl ?_
    refine z_icmp_eqN F (by omega) (by omega) (tgt := 25) dX6_number_14 (by decide) (fun c_14 => ?_) (fun c_14 => ?_)
    · refine z_aload_n F dX6_number_25 rfl ?_
      refine z_mi F rfl 15 rfl (Nat.le_of_ble_eq_true rfl) rfl q1495 dX6_number_26 ?_
      refine z_ieq (hT.2.2.2.2.1) ?_
      refine z_iconst F (nI 3) dX6_number_29 rfl ?_
      refine z_icmp_gtN F (by omega) (by omega) (tgt := 49) dX6_number_30 (by decide) (fun c_30 => ?_) (fun c_30 => ?_)
      · refine z_aload_n F dX6_number_49 rfl ?_
        refine z_iconst F (nI 2) dX6_number_50 rfl ?_
        refine z_callV F (c_mwrong F0 G A B tb z e b 2 he hS0 (by decide)) 1 rfl (lw_V q1808 q1810 qs55 q117 q1811) (by decide +kernel) ⟨Nat.le_of_ble_eq_true rfl, Nat.le_of_ble_eq_true rfl⟩ ⟨by omega, by omega⟩ [0, 1] 2 ⟨rfl, rfl, rfl, ⟨Or.inl rfl, Or.inr rfl, trivial⟩⟩ (fun h => nomatch h) (Nat.le_of_ble_eq_true rfl) ⟨⟨Or.inr trivial, Or.inl rfl, trivial⟩, rfl, rfl, rfl, Nat.le_of_ble_eq_true rfl⟩ rfl zC6 (zat_G0 rfl) rfl dX6_number_51 (fun r_51 w_51 hp => ?_) (fun _ _ h => h.elim)
        obtain ⟨rfl, F2, rfl, k1, k2⟩ := hp
        rw [if_pos e0] at k1
        refine z_weq (w' := [zH, zG _ _ _ _]) rfl ?_
        refine z_seq (S' := []) rfl ?_
        refine z_loc _ ?_ (at54 e0 F2 2 (nu1 2 (by omega) ⟨fun w => by omega, fun w => by omega⟩ (Or.inr rfl)) k1 k2)
        exact ⟨rfl, trivial⟩
      · refine z_aload_n F dX6_number_33 rfl ?_
        refine z_mi F rfl 16 rfl (Nat.le_of_ble_eq_true rfl) rfl q1496 dX6_number_34 ?_
        refine z_ieq (hT.2.2.2.2.2.1) ?_
        refine z_iload_n F dX6_number_37 rfl ?_
        refine z_icmp_ltN F (by omega) (by omega) (tgt := 49) dX6_number_38 (by decide) (fun c_38 => ?_) (fun c_38 => ?_)
        · refine z_aload_n F dX6_number_49 rfl ?_
          refine z_iconst F (nI 2) dX6_number_50 rfl ?_
          refine z_callV F (c_mwrong F0 G A B tb z e b 2 he hS0 (by decide)) 1 rfl (lw_V q1808 q1810 qs55 q117 q1811) (by decide +kernel) ⟨Nat.le_of_ble_eq_true rfl, Nat.le_of_ble_eq_true rfl⟩ ⟨by omega, by omega⟩ [0, 1] 2 ⟨rfl, rfl, rfl, ⟨Or.inl rfl, Or.inr rfl, trivial⟩⟩ (fun h => nomatch h) (Nat.le_of_ble_eq_true rfl) ⟨⟨Or.inr trivial, Or.inl rfl, trivial⟩, rfl, rfl, rfl, Nat.le_of_ble_eq_true rfl⟩ rfl zC6 (zat_G0 rfl) rfl dX6_number_51 (fun r_51 w_51 hp => ?_) (fun _ _ h => h.elim)
          obtain ⟨rfl, F2, rfl, k1, k2⟩ := hp
          rw [if_pos e0] at k1
          refine z_weq (w' := [zH, zG _ _ _ _]) rfl ?_
          refine z_seq (S' := []) rfl ?_
          have hr := hvr (by omega)
          refine z_loc _ ?_ (at54 e0 F2 2 (nu1 2 (by omega) ⟨fun w => by omega, fun w => by omega⟩ (Or.inr rfl)) k1 k2)
          exact ⟨rfl, trivial⟩
        · refine z_aload_n F dX6_number_41 rfl ?_
          refine z_mi F rfl 16 rfl (Nat.le_of_ble_eq_true rfl) rfl q1496 dX6_number_42 ?_
          refine z_ieq (hT.2.2.2.2.2.1) ?_
          refine z_iload_n F dX6_number_45 rfl ?_
          refine z_icmp_leN F (by omega) (by omega) (tgt := 54) dX6_number_46 (by decide) (fun c_46 => ?_) (fun c_46 => ?_)
          · have hr := hvr (by omega)
            refine z_loc _ ?_ (at54 e0 F0 0 (nu1 0 (by omega) ⟨fun _ => ⟨by omega, by omega, by omega⟩, fun _ => rfl⟩ (Or.inl rfl)) (by rw [e0] at hS0; exact hS0) frm.rf)
            exact ⟨rfl, trivial⟩
          · refine z_aload_n F dX6_number_49 rfl ?_
            refine z_iconst F (nI 2) dX6_number_50 rfl ?_
            refine z_callV F (c_mwrong F0 G A B tb z e b 2 he hS0 (by decide)) 1 rfl (lw_V q1808 q1810 qs55 q117 q1811) (by decide +kernel) ⟨Nat.le_of_ble_eq_true rfl, Nat.le_of_ble_eq_true rfl⟩ ⟨by omega, by omega⟩ [0, 1] 2 ⟨rfl, rfl, rfl, ⟨Or.inl rfl, Or.inr rfl, trivial⟩⟩ (fun h => nomatch h) (Nat.le_of_ble_eq_true rfl) ⟨⟨Or.inr trivial, Or.inl rfl, trivial⟩, rfl, rfl, rfl, Nat.le_of_ble_eq_true rfl⟩ rfl zC6 (zat_G0 rfl) rfl dX6_number_51 (fun r_51 w_51 hp => ?_) (fun _ _ h => h.elim)
            obtain ⟨rfl, F2, rfl, k1, k2⟩ := hp
            rw [if_pos e0] at k1
            refine z_weq (w' := [zH, zG _ _ _ _]) rfl ?_
            refine z_seq (S' := []) rfl ?_
            have hr := hvr (by omega)
            refine z_loc _ ?_ (at54 e0 F2 2 (nu1 2 (by omega) ⟨fun w => by omega, fun w => by omega⟩ (Or.inr rfl)) k1 k2)
            exact ⟨rfl, trivial⟩
    · refine z_aload_n F dX6_number_17 rfl ?_
      refine z_iconst F (nI 1) dX6_number_18 rfl ?_
      refine z_callV F (c_mwrong F0 G A B tb z e b 1 he hS0 (by decide)) 1 rfl (lw_V q1808 q1810 qs55 q117 q1811) (by decide +kernel) ⟨Nat.le_of_ble_eq_true rfl, Nat.le_of_ble_eq_true rfl⟩ ⟨by omega, by omega⟩ [0, 1] 2 ⟨rfl, rfl, rfl, ⟨Or.inl rfl, Or.inr rfl, trivial⟩⟩ (fun h => nomatch h) (Nat.le_of_ble_eq_true rfl) ⟨⟨Or.inr trivial, Or.inl rfl, trivial⟩, rfl, rfl, rfl, Nat.le_of_ble_eq_true rfl⟩ rfl zC6 (zat_G0 rfl) rfl dX6_number_19 (fun r_19 w_19 hp => ?_) (fun _ _ h => h.elim)
      obtain ⟨rfl, F2, rfl, k1, k2⟩ := hp
      rw [if_pos e0] at k1
      refine z_weq (w' := [zH, zG _ _ _ _]) rfl ?_
      refine z_seq (S' := []) rfl ?_
      refine z_goto F (tgt := 54) dX6_number_22 (by decide) ?_
      refine z_loc _ ?_ (at54 e0 F2 1 (by unfold nuE; rw [if_pos (by omega)]) k1 k2)
      exact ⟨rfl, trivial⟩
  · have e0 : ¬ e = 0 := of_decide_eq_false c_4
    refine z_iconst F (nI 0) dX6_number_7 rfl ?_
    exact z_iret F E rfl dX6_number_8 (by omega) (by omega) (⟨0, F0, G, rfl, fun w => by rw [numS, if_pos e0] at w; exact absurd w e0, rfl, by rw [numS, if_pos e0]; exact hS0, frm.rf, frm.rf⟩)
theorem c_mknot (F0 : Nat → Int32) (G : Nat → Int64) (A : Nat → Nat → Int32) (B : Nat → Nat → Int64) (tb : Nat → Nat) (z n e b m : Nat) (l : Nat → Nat) (hz : z ≤ 400) (hb : b ≤ z) (htb : ∀ i, tb i < 256) (ht : ∀ i, i < z → A 7 i = nI (tb i)) (he : e ≤ 6) (hS : RS tb z F0 G e b) (h4 : F0 4 = nI n) (hn : n ≤ 24) (hl : lok n l m) (h19 : F0 19 = nI m) (hA : ∀ k, k < m → A 18 k = nI (l k)) : zCtr yX6_knot cX6_knot 2 none 2 0 0 [zr 1 0] [zH, zG F0 G A B] (fun r w => r = none ∧ ∃ F' G' A', w = [zH, zG F' G' A' B] ∧ RS tb z F' G' (kn1 tb z n (e, b, l, m)).1 (kn1 tb z n (e, b, l, m)).2.1 ∧ F' 19 = nI (kn1 tb z n (e, b, l, m)).2.2.2 ∧ (∀ k, k < (kn1 tb z n (e, b, l, m)).2.2.2 → A' 18 k = nI ((kn1 tb z n (e, b, l, m)).2.2.1 k)) ∧ frm LF F0 F' ∧ frm [17] G G' ∧ frm [18] A A') zNx := by
  refine z_start (by decide) [some (zr 1 0), none] rfl (fun _ => Nat.le_of_ble_eq_true rfl) (fun _ => rfl) (fun X F E hno hin => ?_)
  have hS0 := hS
  obtain ⟨hT, h9, h10⟩ := hS
  have hkd := kd_lt tb z b
  have hen := (en_ge tb z b).2 hb
  have hm12 := hl.2.2
  have hvv : vv tb z b < 1000 := by
    unfold vv
    split
    · rename_i q
      exact rvd_999 (tk_D q).2.2.2
    · omega
  have hvr : kd tb z b = 2 → vv tb z b = rv tb z b := fun q => if_pos q
  -- a fault
  have bad : e = 0 → ∀ (e1 : Nat) (F1 : Nat → Int32), e1 ≠ 0 → e1 = knE tb z n l m b → RS tb z F1 G e1 b → frm [9, 10] F0 F1 → Z X [some (zr 1 0), none] [] [zH, zG F1 G A B] 0 0 106 := by
    intro e0 e1 F1 hne he1 hS1 hF
    have hle := knE_le tb z n l m b
    have ek : kn1 tb z n (e, b, l, m) = (e1, b, l, m) := by
      unfold kn1
      rw [if_neg (by show ¬ e ≠ 0; omega), if_neg (by show ¬ knE tb z n l m b = 0; omega), ← he1]
    refine z_aload_n F dX6_knot_106 rfl ?_
    refine z_callV F (c_misGood F1 G A B e1 (by omega) hS1.2.1) 0 rfl (lw_V q1804 q1806 qs54 q117 q1807) (by decide +kernel) ⟨Nat.le_of_ble_eq_true rfl, Nat.le_of_ble_eq_true rfl⟩ ⟨by omega, by omega⟩ [0, 1] 2 ⟨rfl, rfl, rfl, ⟨Or.inl rfl, Or.inr rfl, trivial⟩⟩ (fun h => nomatch h) (Nat.le_of_ble_eq_true rfl) ⟨⟨Or.inr trivial, Or.inl rfl, trivial⟩, rfl, rfl, rfl, Nat.le_of_ble_eq_true rfl⟩ rfl zC6 (zat_G0 rfl) rfl dX6_knot_107 (fun r_107 w_107 hp => ?_) (fun _ _ h => h.elim)
    obtain ⟨rfl, rfl⟩ := hp
    refine z_weq (w' := [zH, zG _ _ _ _]) rfl ?_
    refine z_seq (S' := zi _ :: _) rfl ?_
    refine z_if_neB F (tgt := 114) dX6_knot_110 (by decide) (fun c_110 => ?_) (fun c_110 => ?_)
    · exact absurd (of_decide_eq_true c_110) hne
    · exact z_vret F E rfl dX6_knot_113 (by omega) (by omega) (⟨rfl, F1, G, A, rfl, by rw [ek]; exact hS1, by rw [ek, hF.at 19 rfl]; exact h19, by rw [ek]; exact hA, hF.to (by decide), frm.rf, frm.rf⟩)
  have lp1 : e = 0 → ∀ (e1 : Nat) (F1 : Nat → Int32), e1 ≠ 0 → e1 = knE tb z n l m b → RS tb z F1 G e1 b → frm [9, 10] F0 F1 → ∀ k, k ≤ m → Z X [some (zr 1 0), some (zi (nI k))] [] [zH, zG F1 G A B] 0 0 67 := by
    intro e0 e1 F1 hne he1 hS1 hF k hk
    have hle := knE_le tb z n l m b
    refine z_iload_n F dX6_knot_67 rfl ?_
    refine z_aload_n F dX6_knot_68 rfl ?_
    refine z_mi F rfl 19 rfl (Nat.le_of_ble_eq_true rfl) rfl q1499 dX6_knot_69 ?_
    refine z_ieq ((hF.at 19 rfl).trans h19) ?_
    refine z_icmp_geN F (by omega) (by omega) (tgt := 106) dX6_knot_72 (by decide) (fun c_72 => ?_) (fun c_72 => ?_)
    · refine z_loc _ ?_ (bad e0 e1 F1 hne he1 hS1 hF)
      exact ⟨rfl, trivial⟩
    · refine z_aload_n F dX6_knot_75 rfl ?_
      refine z_callV F (c_misGood F1 G A B e1 (by omega) hS1.2.1) 0 rfl (lw_V q1804 q1806 qs54 q117 q1807) (by decide +kernel) ⟨Nat.le_of_ble_eq_true rfl, Nat.le_of_ble_eq_true rfl⟩ ⟨by omega, by omega⟩ [0, 1] 2 ⟨rfl, rfl, rfl, ⟨Or.inl rfl, Or.inr rfl, trivial⟩⟩ (fun h => nomatch h) (Nat.le_of_ble_eq_true rfl) ⟨⟨Or.inr trivial, Or.inl rfl, trivial⟩, rfl, rfl, rfl, Nat.le_of_ble_eq_true rfl⟩ rfl zC6 (zat_G0 rfl) rfl dX6_knot_76 (fun r_76 w_76 hp => ?_) (fun _ _ h => h.elim)
      obtain ⟨rfl, rfl⟩ := hp
      refine z_weq (w' := [zH, zG _ _ _ _]) rfl ?_
      refine z_seq (S' := zi _ :: _) rfl ?_
      refine z_if_eqB F (tgt := 106) dX6_knot_79 (by decide) (fun c_79 => ?_) (fun c_79 => ?_)
      · refine z_loc _ ?_ (bad e0 e1 F1 hne he1 hS1 hF)
        exact ⟨rfl, trivial⟩
      · exact absurd (of_decide_eq_true c_79) hne
  have lp0 : e = 0 → kd tb z b = 2 → en tb z b - b ≤ 3 → m ≠ 12 → rv tb z b < n → ∀ (u k : Nat), m - k < u → k ≤ m → lmem l (rv tb z b) k = false → Z X [some (zr 1 0), some (zi (nI k))] [] [zH, zG F0 G A B] 0 0 67 := by
    intro e0 q1 q2 q3 q4 u
    induction u with
    | zero => intro k hu; omega
    | succ u ih =>
      intro k hu hk hlm
      have hr := hvr q1
      have hlk := fun w => hl.1 k w
      have a18 := fun w => hA k w
      have nxt := fun z1 z2 => ih (k + 1) (by omega) z1 z2
      refine z_iload_n F dX6_knot_67 rfl ?_
      refine z_aload_n F dX6_knot_68 rfl ?_
      refine z_mi F rfl 19 rfl (Nat.le_of_ble_eq_true rfl) rfl q1499 dX6_knot_69 ?_
      refine z_ieq (h19) ?_
      refine z_icmp_geN F (by omega) (by omega) (tgt := 106) dX6_knot_72 (by decide) (fun c_72 => ?_) (fun c_72 => ?_)
      · have ek : k = m := by omega
        subst ek
        have hE : knE tb z n l k b = 0 := by unfold knE; rw [if_neg (by omega), if_neg (by omega), if_neg (by omega), if_neg (by rw [hlm]; decide)]
        have ek1 : kn1 tb z n (e, b, l, k) = (0, nb tb z b, lput l k (rv tb z b), k + 1) := by
          unfold kn1
          rw [if_neg (by show ¬ e ≠ 0; omega), if_pos hE]
        refine z_aload_n F dX6_knot_106 rfl ?_
        refine z_callV F (c_misGood F0 G A B e he h9) 0 rfl (lw_V q1804 q1806 qs54 q117 q1807) (by decide +kernel) ⟨Nat.le_of_ble_eq_true rfl, Nat.le_of_ble_eq_true rfl⟩ ⟨by omega, by omega⟩ [0, 1] 2 ⟨rfl, rfl, rfl, ⟨Or.inl rfl, Or.inr rfl, trivial⟩⟩ (fun h => nomatch h) (Nat.le_of_ble_eq_true rfl) ⟨⟨Or.inr trivial, Or.inl rfl, trivial⟩, rfl, rfl, rfl, Nat.le_of_ble_eq_true rfl⟩ rfl zC6 (zat_G0 rfl) rfl dX6_knot_107 (fun r_107 w_107 hp => ?_) (fun _ _ h => h.elim)
        obtain ⟨rfl, rfl⟩ := hp
        refine z_weq (w' := [zH, zG _ _ _ _]) rfl ?_
        refine z_seq (S' := zi _ :: _) rfl ?_
        refine z_if_neB F (tgt := 114) dX6_knot_110 (by decide) (fun c_110 => ?_) (fun c_110 => ?_)
        · refine z_aload_n F dX6_knot_114 rfl ?_
          refine z_ma F rfl 18 rfl (Nat.le_of_ble_eq_true rfl) rfl q1498 dX6_knot_115 ?_
          refine z_aload_n F dX6_knot_118 rfl ?_
          refine z_mi F rfl 19 rfl (Nat.le_of_ble_eq_true rfl) rfl q1499 dX6_knot_119 ?_
          refine z_ieq (h19) ?_
          refine z_aload_n F dX6_knot_122 rfl ?_
          refine z_mi F rfl 16 rfl (Nat.le_of_ble_eq_true rfl) rfl q1496 dX6_knot_123 ?_
          refine z_ieq ((hT.2.2.2.2.2.1.trans (by rw [hr]) : F0 16 = nI (rv tb z b))) ?_
          refine z_iastGN F rfl rfl (Nat.le_of_ble_eq_true rfl) (by omega) dX6_knot_126 ?_
          refine z_weq (w' := [_, _]) rfl ?_
          refine z_aload_n F dX6_knot_127 rfl ?_
          refine z_dup F dX6_knot_128 rfl ?_
          refine z_mi F rfl 19 rfl (Nat.le_of_ble_eq_true rfl) rfl q1499 dX6_knot_129 ?_
          refine z_ieq (h19) ?_
          refine z_iconst F (nI 1) dX6_knot_132 rfl ?_
          refine z_iaddN F dX6_knot_133 ?_
          refine z_pmi F rfl 19 rfl (Nat.le_of_ble_eq_true rfl) rfl q1499 rfl rfl rfl dX6_knot_134 ?_
          refine z_weq (w' := [_, _]) rfl ?_
          refine z_aload_n F dX6_knot_137 rfl ?_
          refine z_callV F (c_mrdGo (upd F0 19 (nI (k + 1))) G (zup2 A 18 k (nI (rv tb z b))) B tb z (en tb z b) hz hen htb hT.1 hT.2.1 (fun i hi => by rw [zup2_ne (by decide)]; exact ht i hi)) 0 rfl (lw_V q1779 q1781 qs50 q117 q1782) (by decide +kernel) ⟨Nat.le_of_ble_eq_true rfl, Nat.le_of_ble_eq_true rfl⟩ ⟨by omega, by omega⟩ [0, 1] 2 ⟨rfl, rfl, rfl, ⟨Or.inl rfl, Or.inr rfl, trivial⟩⟩ (fun h => nomatch h) (Nat.le_of_ble_eq_true rfl) ⟨⟨Or.inr trivial, Or.inl rfl, trivial⟩, rfl, rfl, rfl, Nat.le_of_ble_eq_true rfl⟩ rfl zC6 (zat_G0 rfl) rfl dX6_knot_138 (fun r_138 w_138 hp => ?_) (fun _ _ h => h.elim)
          obtain ⟨rfl, F2, G2, rfl, m1, m2, m3⟩ := hp
          refine z_weq (w' := [zH, zG _ _ _ _]) rfl ?_
          refine z_seq (S' := []) rfl ?_
          exact z_vret F E rfl dX6_knot_141 (by omega) (by omega) (⟨rfl, F2, G2, _, rfl, by
  rw [ek1]
  exact ⟨m1, by rw [m2.at 9 rfl]; exact h9.trans (by rw [e0]), fun w => absurd rfl w, fun _ => (m2.at 10 rfl).trans (h10.2 e0)⟩, by rw [ek1, m2.at 19 rfl]; rfl, fun i hi => by
  rw [ek1] at hi ⊢
  rw [zup2_row]
  show (if i = k then _ else A 18 i) = nI (if i = k then _ else l i)
  by_cases w : i = k
  · rw [if_pos w, if_pos w]
  · rw [if_neg w, if_neg w]; exact hA i (by have hi : i < k + 1 := hi; omega), (frm_upd (l := [19]) frm.rf (by decide)).tr m2 (by decide) (by decide), m3, frm_zup frm.rf (by decide)⟩)
        · exact absurd e0 (of_decide_eq_false c_110)
      · refine z_aload_n F dX6_knot_75 rfl ?_
        refine z_callV F (c_misGood F0 G A B e he h9) 0 rfl (lw_V q1804 q1806 qs54 q117 q1807) (by decide +kernel) ⟨Nat.le_of_ble_eq_true rfl, Nat.le_of_ble_eq_true rfl⟩ ⟨by omega, by omega⟩ [0, 1] 2 ⟨rfl, rfl, rfl, ⟨Or.inl rfl, Or.inr rfl, trivial⟩⟩ (fun h => nomatch h) (Nat.le_of_ble_eq_true rfl) ⟨⟨Or.inr trivial, Or.inl rfl, trivial⟩, rfl, rfl, rfl, Nat.le_of_ble_eq_true rfl⟩ rfl zC6 (zat_G0 rfl) rfl dX6_knot_76 (fun r_76 w_76 hp => ?_) (fun _ _ h => h.elim)
        obtain ⟨rfl, rfl⟩ := hp
        refine z_weq (w' := [zH, zG _ _ _ _]) rfl ?_
        refine z_seq (S' := zi _ :: _) rfl ?_
        refine z_if_eqB F (tgt := 106) dX6_knot_79 (by decide) (fun c_79 => ?_) (fun c_79 => ?_)
        · exact absurd e0 (of_decide_eq_false c_79)
        · have hlk := hlk (by omega)
          have a18 := a18 (by omega)
          refine z_aload_n F dX6_knot_82 rfl ?_
          refine z_ma F rfl 18 rfl (Nat.le_of_ble_eq_true rfl) rfl q1498 dX6_knot_83 ?_
          refine z_iload_n F dX6_knot_86 rfl ?_
          refine z_ialdGN F rfl rfl (Nat.le_of_ble_eq_true rfl) (by omega) rfl dX6_knot_87 ?_
          refine z_ieq (a18) ?_
          refine z_aload_n F dX6_knot_88 rfl ?_
          refine z_mi F rfl 16 rfl (Nat.le_of_ble_eq_true rfl) rfl q1496 dX6_knot_89 ?_
          refine z_ieq ((hT.2.2.2.2.2.1.trans (by rw [hr]) : F0 16 = nI (rv tb z b))) ?_
          refine z_icmp_neN F (by omega) (by omega) (tgt := 100) dX6_knot_92 (by decide) (fun c_92 => ?_) (fun c_92 => ?_)
          · refine z_iincN F 1 dX6_knot_100 rfl rfl ?_
            refine z_leq (L' := [_, _]) rfl ?_
            refine z_goto F (tgt := 67) dX6_knot_103 (by decide) ?_
            refine nxt (by omega) ?_
            rw [lmem, hlm, decide_eq_false c_92]; rfl
          · refine z_aload_n F dX6_knot_95 rfl ?_
            refine z_iconst F (nI 4) dX6_knot_96 rfl ?_
            refine z_callV F (c_mwrong F0 G A B tb z e b 4 he hS0 (by decide)) 1 rfl (lw_V q1808 q1810 qs55 q117 q1811) (by decide +kernel) ⟨Nat.le_of_ble_eq_true rfl, Nat.le_of_ble_eq_true rfl⟩ ⟨by omega, by omega⟩ [0, 1] 2 ⟨rfl, rfl, rfl, ⟨Or.inl rfl, Or.inr rfl, trivial⟩⟩ (fun h => nomatch h) (Nat.le_of_ble_eq_true rfl) ⟨⟨Or.inr trivial, Or.inl rfl, trivial⟩, rfl, rfl, rfl, Nat.le_of_ble_eq_true rfl⟩ rfl zC6 (zat_G0 rfl) rfl dX6_knot_97 (fun r_97 w_97 hp => ?_) (fun _ _ h => h.elim)
            obtain ⟨rfl, F2, rfl, k1, k2⟩ := hp
            rw [if_pos e0] at k1
            refine z_weq (w' := [zH, zG _ _ _ _]) rfl ?_
            refine z_seq (S' := []) rfl ?_
            refine z_iincN F 1 dX6_knot_100 rfl rfl ?_
            refine z_leq (L' := [_, _]) rfl ?_
            refine z_goto F (tgt := 67) dX6_knot_103 (by decide) ?_
            refine lp1 e0 4 F2 (by omega) ?_ k1 k2 (k + 1) (by omega)
            unfold knE
            rw [if_neg (by omega), if_neg (by omega), if_neg (by omega), if_pos (lmem_t.mpr ⟨k, by omega, c_92⟩)]
  refine z_aload_n F dX6_knot_0 rfl ?_
  refine z_callV F (c_misGood F0 G A B e he h9) 0 rfl (lw_V q1804 q1806 qs54 q117 q1807) (by decide +kernel) ⟨Nat.le_of_ble_eq_true rfl, Nat.le_of_ble_eq_true rfl⟩ ⟨by omega, by omega⟩ [0, 1] 2 ⟨rfl, rfl, rfl, ⟨Or.inl rfl, Or.inr rfl, trivial⟩⟩ (fun h => nomatch h) (Nat.le_of_ble_eq_true rfl) ⟨⟨Or.inr trivial, Or.inl rfl, trivial⟩, rfl, rfl, rfl, Nat.le_of_ble_eq_true rfl⟩ rfl zC6 (zat_G0 rfl) rfl dX6_knot_1 (fun r_1 w_1 hp => ?_) (fun _ _ h => h.elim)
  obtain ⟨rfl, rfl⟩ := hp
  refine z_weq (w' := [zH, zG _ _ _ _]) rfl ?_
  refine z_seq (S' := zi _ :: _) rfl ?_
  refine z_if_neB F (tgt := 8) dX6_knot_4 (by decide) (fun c_4 => ?_) (fun c_4 => ?_)
  · have e0 : e = 0 := of_decide_eq_true c_4
    refine z_aload_n F dX6_knot_8 rfl ?_
    refine z_mi F rfl 13 rfl (Nat.le_of_ble_eq_true rfl) rfl q1493 dX6_knot_9 ?_
    refine z_ieq (hT.2.2.1) ?_
    refine z_iconst F (nI 2) dX6_knot_12 rfl ?_
    refine z_icmp_eqN F (by omega) (by omega) (tgt := 24) dX6_knot_13 (by decide) (fun c_13 => ?_) (fun c_13 => ?_)
    · refine z_aload_n F dX6_knot_24 rfl ?_
      refine z_mi F rfl 15 rfl (Nat.le_of_ble_eq_true rfl) rfl q1495 dX6_knot_25 ?_
      refine z_ieq (hT.2.2.2.2.1) ?_
      refine z_iconst F (nI 3) dX6_knot_28 rfl ?_
      refine z_icmp_gtN F (by omega) (by omega) (tgt := 41) dX6_knot_29 (by decide) (fun c_29 => ?_) (fun c_29 => ?_)
      · refine z_aload_n F dX6_knot_41 rfl ?_
        refine z_iconst F (nI 2) dX6_knot_42 rfl ?_
        refine z_callV F (c_mwrong F0 G A B tb z e b 2 he hS0 (by decide)) 1 rfl (lw_V q1808 q1810 qs55 q117 q1811) (by decide +kernel) ⟨Nat.le_of_ble_eq_true rfl, Nat.le_of_ble_eq_true rfl⟩ ⟨by omega, by omega⟩ [0, 1] 2 ⟨rfl, rfl, rfl, ⟨Or.inl rfl, Or.inr rfl, trivial⟩⟩ (fun h => nomatch h) (Nat.le_of_ble_eq_true rfl) ⟨⟨Or.inr trivial, Or.inl rfl, trivial⟩, rfl, rfl, rfl, Nat.le_of_ble_eq_true rfl⟩ rfl zC6 (zat_G0 rfl) rfl dX6_knot_43 (fun r_43 w_43 hp => ?_) (fun _ _ h => h.elim)
        obtain ⟨rfl, F2, rfl, k1, k2⟩ := hp
        rw [if_pos e0] at k1
        refine z_weq (w' := [zH, zG _ _ _ _]) rfl ?_
        refine z_seq (S' := []) rfl ?_
        refine z_goto F (tgt := 65) dX6_knot_46 (by decide) ?_
        refine z_iconst F (nI 0) dX6_knot_65 rfl ?_
        refine z_istore_n F dX6_knot_66 (Nat.le_of_ble_eq_true rfl) ?_
        refine z_leq (L' := [_, _]) rfl ?_
        exact lp1 e0 2 F2 (by omega) (by unfold knE; rw [if_neg (by omega), if_pos (by omega)]) k1 k2 0 (by omega)
      · refine z_aload_n F dX6_knot_32 rfl ?_
        refine z_mi F rfl 19 rfl (Nat.le_of_ble_eq_true rfl) rfl q1499 dX6_knot_33 ?_
        refine z_ieq (h19) ?_
        refine z_bipush F (nI 12) dX6_knot_36 rfl ?_
        refine z_icmp_neN F (by omega) (by omega) (tgt := 49) dX6_knot_38 (by decide) (fun c_38 => ?_) (fun c_38 => ?_)
        · refine z_aload_n F dX6_knot_49 rfl ?_
          refine z_mi F rfl 16 rfl (Nat.le_of_ble_eq_true rfl) rfl q1496 dX6_knot_50 ?_
          refine z_ieq (hT.2.2.2.2.2.1) ?_
          refine z_aload_n F dX6_knot_53 rfl ?_
          refine z_mi F rfl 4 rfl (Nat.le_of_ble_eq_true rfl) rfl q1484 dX6_knot_54 ?_
          refine z_ieq (h4) ?_
          refine z_icmp_ltN F (by omega) (by omega) (tgt := 65) dX6_knot_57 (by decide) (fun c_57 => ?_) (fun c_57 => ?_)
          · refine z_iconst F (nI 0) dX6_knot_65 rfl ?_
            refine z_istore_n F dX6_knot_66 (Nat.le_of_ble_eq_true rfl) ?_
            refine z_leq (L' := [_, _]) rfl ?_
            have hr := hvr (by omega)
            exact lp0 e0 (by omega) (by omega) (by omega) (by omega) (m + 1) 0 (by omega) (by omega) rfl
          · refine z_aload_n F dX6_knot_60 rfl ?_
            refine z_iconst F (nI 3) dX6_knot_61 rfl ?_
            refine z_callV F (c_mwrong F0 G A B tb z e b 3 he hS0 (by decide)) 1 rfl (lw_V q1808 q1810 qs55 q117 q1811) (by decide +kernel) ⟨Nat.le_of_ble_eq_true rfl, Nat.le_of_ble_eq_true rfl⟩ ⟨by omega, by omega⟩ [0, 1] 2 ⟨rfl, rfl, rfl, ⟨Or.inl rfl, Or.inr rfl, trivial⟩⟩ (fun h => nomatch h) (Nat.le_of_ble_eq_true rfl) ⟨⟨Or.inr trivial, Or.inl rfl, trivial⟩, rfl, rfl, rfl, Nat.le_of_ble_eq_true rfl⟩ rfl zC6 (zat_G0 rfl) rfl dX6_knot_62 (fun r_62 w_62 hp => ?_) (fun _ _ h => h.elim)
            obtain ⟨rfl, F2, rfl, k1, k2⟩ := hp
            rw [if_pos e0] at k1
            refine z_weq (w' := [zH, zG _ _ _ _]) rfl ?_
            refine z_seq (S' := []) rfl ?_
            refine z_iconst F (nI 0) dX6_knot_65 rfl ?_
            refine z_istore_n F dX6_knot_66 (Nat.le_of_ble_eq_true rfl) ?_
            refine z_leq (L' := [_, _]) rfl ?_
            have hr := hvr (by omega)
            exact lp1 e0 3 F2 (by omega) (by unfold knE; rw [if_neg (by omega), if_neg (by omega), if_pos (by omega)]) k1 k2 0 (by omega)
        · refine z_aload_n F dX6_knot_41 rfl ?_
          refine z_iconst F (nI 2) dX6_knot_42 rfl ?_
          refine z_callV F (c_mwrong F0 G A B tb z e b 2 he hS0 (by decide)) 1 rfl (lw_V q1808 q1810 qs55 q117 q1811) (by decide +kernel) ⟨Nat.le_of_ble_eq_true rfl, Nat.le_of_ble_eq_true rfl⟩ ⟨by omega, by omega⟩ [0, 1] 2 ⟨rfl, rfl, rfl, ⟨Or.inl rfl, Or.inr rfl, trivial⟩⟩ (fun h => nomatch h) (Nat.le_of_ble_eq_true rfl) ⟨⟨Or.inr trivial, Or.inl rfl, trivial⟩, rfl, rfl, rfl, Nat.le_of_ble_eq_true rfl⟩ rfl zC6 (zat_G0 rfl) rfl dX6_knot_43 (fun r_43 w_43 hp => ?_) (fun _ _ h => h.elim)
          obtain ⟨rfl, F2, rfl, k1, k2⟩ := hp
          rw [if_pos e0] at k1
          refine z_weq (w' := [zH, zG _ _ _ _]) rfl ?_
          refine z_seq (S' := []) rfl ?_
          refine z_goto F (tgt := 65) dX6_knot_46 (by decide) ?_
          refine z_iconst F (nI 0) dX6_knot_65 rfl ?_
          refine z_istore_n F dX6_knot_66 (Nat.le_of_ble_eq_true rfl) ?_
          refine z_leq (L' := [_, _]) rfl ?_
          exact lp1 e0 2 F2 (by omega) (by unfold knE; rw [if_neg (by omega), if_pos (by omega)]) k1 k2 0 (by omega)
    · refine z_aload_n F dX6_knot_16 rfl ?_
      refine z_iconst F (nI 1) dX6_knot_17 rfl ?_
      refine z_callV F (c_mwrong F0 G A B tb z e b 1 he hS0 (by decide)) 1 rfl (lw_V q1808 q1810 qs55 q117 q1811) (by decide +kernel) ⟨Nat.le_of_ble_eq_true rfl, Nat.le_of_ble_eq_true rfl⟩ ⟨by omega, by omega⟩ [0, 1] 2 ⟨rfl, rfl, rfl, ⟨Or.inl rfl, Or.inr rfl, trivial⟩⟩ (fun h => nomatch h) (Nat.le_of_ble_eq_true rfl) ⟨⟨Or.inr trivial, Or.inl rfl, trivial⟩, rfl, rfl, rfl, Nat.le_of_ble_eq_true rfl⟩ rfl zC6 (zat_G0 rfl) rfl dX6_knot_18 (fun r_18 w_18 hp => ?_) (fun _ _ h => h.elim)
      obtain ⟨rfl, F2, rfl, k1, k2⟩ := hp
      rw [if_pos e0] at k1
      refine z_weq (w' := [zH, zG _ _ _ _]) rfl ?_
      refine z_seq (S' := []) rfl ?_
      refine z_goto F (tgt := 65) dX6_knot_21 (by decide) ?_
      refine z_iconst F (nI 0) dX6_knot_65 rfl ?_
      refine z_istore_n F dX6_knot_66 (Nat.le_of_ble_eq_true rfl) ?_
      refine z_leq (L' := [_, _]) rfl ?_
      exact lp1 e0 1 F2 (by omega) (by unfold knE; rw [if_pos (by omega)]) k1 k2 0 (by omega)
  · have e0 : ¬ e = 0 := of_decide_eq_false c_4
    have ek : kn1 tb z n (e, b, l, m) = (e, b, l, m) := by unfold kn1; rw [if_pos e0]
    exact z_vret F E rfl dX6_knot_7 (by omega) (by omega) (⟨rfl, F0, G, A, rfl, by rw [ek]; exact hS0, by rw [ek]; exact h19, by rw [ek]; exact hA, frm.rf, frm.rf, frm.rf⟩)
/-- lines so far: a net laid out, or a fault -/
abbrev eS (s : dS) : Nat := match s with
  | .inl _ => 0
  | .inr e => e
theorem c_mdraw (F0 : Nat → Int32) (G : Nat → Int64) (A : Nat → Nat → Int32) (B : Nat → Nat → Int64) (tb : Nat → Nat) (z n d b x y : Nat) (s : dS) (hs : dok n d s) (hn : n ≤ 24) (hd : d ≤ 8) (hx : x < n) (hy : y < n) (hxy : x ≠ y) (hS : RS tb z F0 G (eS s) b) (h5 : F0 5 = nI d) (hA : ∀ f, s = .inl f → ∀ k, k < 24 → A 6 k = f k) : zCtr yX6_drawLine cX6_drawLine 3 none 1 0 0 [zr 1 0, zi (nI x), zi (nI y)] [zH, zG F0 G A B] (fun r w => r = none ∧ ∃ F' A', w = [zH, zG F' G A' B] ∧ RS tb z F' G (eS (dj d s x y)) b ∧ (∀ f, dj d s x y = .inl f → ∀ k, k < 24 → A' 6 k = f k) ∧ frm [9, 10] F0 F' ∧ frm [6] A A') zNx := by
  refine z_start (by decide) [some (zr 1 0), some (zi (nI x)), some (zi (nI y))] rfl (fun _ => Nat.le_of_ble_eq_true rfl) (fun _ => rfl) (fun X F E hno hin => ?_)
  have hS0 := hS
  obtain ⟨hT, h9, h10⟩ := hS
  rcases s with f | e1
  · have hf := hA f rfl
    have p1 := pc32_le (f x)
    have p2 := pc32_le (f y)
    refine z_aload_n F dX6_drawLine_0 rfl ?_
    refine z_callV F (c_misGood F0 G A B 0 (by omega) h9) 0 rfl (lw_V q1804 q1806 qs54 q117 q1807) (by decide +kernel) ⟨Nat.le_of_ble_eq_true rfl, Nat.le_of_ble_eq_true rfl⟩ ⟨by omega, by omega⟩ [0, 1] 2 ⟨rfl, rfl, rfl, ⟨Or.inl rfl, Or.inr rfl, trivial⟩⟩ (fun h => nomatch h) (Nat.le_of_ble_eq_true rfl) ⟨⟨Or.inr trivial, Or.inl rfl, trivial⟩, rfl, rfl, rfl, Nat.le_of_ble_eq_true rfl⟩ rfl zC6 (zat_G0 rfl) rfl dX6_drawLine_1 (fun r_1 w_1 hp => ?_) (fun _ _ h => h.elim)
    obtain ⟨rfl, rfl⟩ := hp
    refine z_weq (w' := [zH, zG _ _ _ _]) rfl ?_
    refine z_seq (S' := zi _ :: _) rfl ?_
    refine z_if_neB F (tgt := 8) dX6_drawLine_4 (by decide) (fun c_4 => ?_) (fun c_4 => ?_)
    · refine z_aload_n F dX6_drawLine_8 rfl ?_
      refine z_iload_n F dX6_drawLine_9 rfl ?_
      refine z_iload_n F dX6_drawLine_10 rfl ?_
      refine z_callV F (c_isJoined F0 G A B x y (by omega) (by omega)) 2 rfl (lw_V q1748 q1750 qs46 q117 q1751) (by decide +kernel) ⟨Nat.le_of_ble_eq_true rfl, Nat.le_of_ble_eq_true rfl⟩ ⟨by omega, by omega⟩ [0, 1] 2 ⟨rfl, rfl, rfl, ⟨Or.inl rfl, Or.inr rfl, trivial⟩⟩ (fun h => nomatch h) (Nat.le_of_ble_eq_true rfl) ⟨⟨Or.inr trivial, Or.inl rfl, trivial⟩, rfl, rfl, rfl, Nat.le_of_ble_eq_true rfl⟩ rfl zC6 (zat_G0 rfl) rfl dX6_drawLine_11 (fun r_11 w_11 hp => ?_) (fun _ _ h => h.elim)
      obtain ⟨rfl, rfl⟩ := hp
      rw [hf x (by omega)]
      refine z_weq (w' := [zH, zG _ _ _ _]) rfl ?_
      refine z_seq (S' := zi _ :: _) rfl ?_
      refine z_if_eqB F (tgt := 25) dX6_drawLine_14 (by decide) (fun c_14 => ?_) (fun c_14 => ?_)
      · refine z_aload_n F dX6_drawLine_25 rfl ?_
        refine z_ma F rfl 6 rfl (Nat.le_of_ble_eq_true rfl) rfl q1486 dX6_drawLine_26 ?_
        refine z_iload_n F dX6_drawLine_29 rfl ?_
        refine z_ialdGN F rfl rfl (Nat.le_of_ble_eq_true rfl) (by omega) rfl dX6_drawLine_30 ?_
        refine z_callS F (c_bits (A 6 x)) 1 rfl (lw_S q1752 q1753 q117 q1754) (by decide +kernel) ⟨Nat.le_of_ble_eq_true rfl, Nat.le_of_ble_eq_true rfl⟩ ⟨by omega, by omega⟩ [0] 2 ⟨rfl, rfl, rfl, ⟨Or.inl rfl, trivial⟩⟩ (fun h => nomatch h) (Nat.le_of_ble_eq_true rfl) ⟨⟨Or.inr trivial, Or.inr trivial, trivial⟩, rfl, rfl, rfl, Nat.le_of_ble_eq_true rfl⟩ rfl rfl dX6_drawLine_31 (fun r_31 w_31 hp => ?_) (fun _ _ h => h.elim)
        obtain ⟨rfl, rfl⟩ := hp
        rw [hf x (by omega)]
        refine z_weq (w' := [zH, zG _ _ _ _]) rfl ?_
        refine z_seq (S' := zi _ :: _) rfl ?_
        refine z_aload_n F dX6_drawLine_34 rfl ?_
        refine z_mi F rfl 5 rfl (Nat.le_of_ble_eq_true rfl) rfl q1485 dX6_drawLine_35 ?_
        refine z_ieq (h5) ?_
        refine z_icmp_geN F (by omega) (by omega) (tgt := 57) dX6_drawLine_38 (by decide) (fun c_38 => ?_) (fun c_38 => ?_)
        · refine z_aload_n F dX6_drawLine_57 rfl ?_
          refine z_bipush F (nI 6) dX6_drawLine_58 rfl ?_
          refine z_callV F (c_mwrong F0 G A B tb z 0 b 6 (by omega) hS0 (by decide)) 1 rfl (lw_V q1808 q1810 qs55 q117 q1811) (by decide +kernel) ⟨Nat.le_of_ble_eq_true rfl, Nat.le_of_ble_eq_true rfl⟩ ⟨by omega, by omega⟩ [0, 1] 2 ⟨rfl, rfl, rfl, ⟨Or.inl rfl, Or.inr rfl, trivial⟩⟩ (fun h => nomatch h) (Nat.le_of_ble_eq_true rfl) ⟨⟨Or.inr trivial, Or.inl rfl, trivial⟩, rfl, rfl, rfl, Nat.le_of_ble_eq_true rfl⟩ rfl zC6 (zat_G0 rfl) rfl dX6_drawLine_60 (fun r_60 w_60 hp => ?_) (fun _ _ h => h.elim)
          obtain ⟨rfl, F2, rfl, k1, k2⟩ := hp
          rw [if_pos rfl] at k1
          refine z_weq (w' := [zH, zG _ _ _ _]) rfl ?_
          refine z_seq (S' := []) rfl ?_
          refine z_goto F (tgt := 72) dX6_drawLine_63 (by decide) ?_
          exact z_vret F E rfl dX6_drawLine_72 (by omega) (by omega) (⟨rfl, F2, A, rfl, by rw [show dj d (.inl f) x y = .inr 6 from by unfold dj; dsimp only; rw [if_neg (by rw [c_14]; decide), if_neg (fun w => by unfold mayJ at w; simp only [Bool.and_eq_true, decide_eq_true_eq] at w; omega)]]; exact k1, fun g q => (by rw [show dj d (.inl f) x y = .inr 6 from by unfold dj; dsimp only; rw [if_neg (by rw [c_14]; decide), if_neg (fun w => by unfold mayJ at w; simp only [Bool.and_eq_true, decide_eq_true_eq] at w; omega)]] at q; cases q), k2, frm.rf⟩)
        · refine z_aload_n F dX6_drawLine_41 rfl ?_
          refine z_ma F rfl 6 rfl (Nat.le_of_ble_eq_true rfl) rfl q1486 dX6_drawLine_42 ?_
          refine z_iload_n F dX6_drawLine_45 rfl ?_
          refine z_ialdGN F rfl rfl (Nat.le_of_ble_eq_true rfl) (by omega) rfl dX6_drawLine_46 ?_
          refine z_callS F (c_bits (A 6 y)) 1 rfl (lw_S q1752 q1753 q117 q1754) (by decide +kernel) ⟨Nat.le_of_ble_eq_true rfl, Nat.le_of_ble_eq_true rfl⟩ ⟨by omega, by omega⟩ [0] 2 ⟨rfl, rfl, rfl, ⟨Or.inl rfl, trivial⟩⟩ (fun h => nomatch h) (Nat.le_of_ble_eq_true rfl) ⟨⟨Or.inr trivial, Or.inr trivial, trivial⟩, rfl, rfl, rfl, Nat.le_of_ble_eq_true rfl⟩ rfl rfl dX6_drawLine_47 (fun r_47 w_47 hp => ?_) (fun _ _ h => h.elim)
          obtain ⟨rfl, rfl⟩ := hp
          rw [hf y (by omega)]
          refine z_weq (w' := [zH, zG _ _ _ _]) rfl ?_
          refine z_seq (S' := zi _ :: _) rfl ?_
          refine z_aload_n F dX6_drawLine_50 rfl ?_
          refine z_mi F rfl 5 rfl (Nat.le_of_ble_eq_true rfl) rfl q1485 dX6_drawLine_51 ?_
          refine z_ieq (h5) ?_
          refine z_icmp_ltN F (by omega) (by omega) (tgt := 66) dX6_drawLine_54 (by decide) (fun c_54 => ?_) (fun c_54 => ?_)
          · refine z_aload_n F dX6_drawLine_66 rfl ?_
            refine z_iload_n F dX6_drawLine_67 rfl ?_
            refine z_iload_n F dX6_drawLine_68 rfl ?_
            refine z_callV F (c_joins F0 G A B x y (by omega) (by omega)) 2 rfl (lw_V q1755 q1757 qs47 q117 q1758) (by decide +kernel) ⟨Nat.le_of_ble_eq_true rfl, Nat.le_of_ble_eq_true rfl⟩ ⟨by omega, by omega⟩ [0, 1] 2 ⟨rfl, rfl, rfl, ⟨Or.inl rfl, Or.inr rfl, trivial⟩⟩ (fun h => nomatch h) (Nat.le_of_ble_eq_true rfl) ⟨⟨Or.inr trivial, Or.inl rfl, trivial⟩, rfl, rfl, rfl, Nat.le_of_ble_eq_true rfl⟩ rfl zC6 (zat_G0 rfl) rfl dX6_drawLine_69 (fun r_69 w_69 hp => ?_) (fun _ _ h => h.elim)
            obtain ⟨rfl, rfl⟩ := hp
            refine z_weq (w' := [zH, zG _ _ _ _]) rfl ?_
            refine z_seq (S' := []) rfl ?_
            exact z_vret F E rfl dX6_drawLine_72 (by omega) (by omega) (⟨rfl, F0, _, rfl, by rw [show dj d (.inl f) x y = .inl (jn f x y) from by unfold dj; dsimp only; rw [if_neg (by rw [c_14]; decide), if_pos (by unfold mayJ; rw [decide_eq_true hxy, c_14, decide_eq_true c_38, decide_eq_true c_54]; rfl)]]; exact hS0, fun g q => by
  rw [show dj d (.inl f) x y = .inl (jn f x y) from by unfold dj; dsimp only; rw [if_neg (by rw [c_14]; decide), if_pos (by unfold mayJ; rw [decide_eq_true hxy, c_14, decide_eq_true c_38, decide_eq_true c_54]; rfl)]] at q
  cases q
  intro k hk
  rw [fA_at]
  exact jn_cong hf (by omega) (by omega) hk, frm.rf, frm_fA frm.rf (by decide)⟩)
          · refine z_aload_n F dX6_drawLine_57 rfl ?_
            refine z_bipush F (nI 6) dX6_drawLine_58 rfl ?_
            refine z_callV F (c_mwrong F0 G A B tb z 0 b 6 (by omega) hS0 (by decide)) 1 rfl (lw_V q1808 q1810 qs55 q117 q1811) (by decide +kernel) ⟨Nat.le_of_ble_eq_true rfl, Nat.le_of_ble_eq_true rfl⟩ ⟨by omega, by omega⟩ [0, 1] 2 ⟨rfl, rfl, rfl, ⟨Or.inl rfl, Or.inr rfl, trivial⟩⟩ (fun h => nomatch h) (Nat.le_of_ble_eq_true rfl) ⟨⟨Or.inr trivial, Or.inl rfl, trivial⟩, rfl, rfl, rfl, Nat.le_of_ble_eq_true rfl⟩ rfl zC6 (zat_G0 rfl) rfl dX6_drawLine_60 (fun r_60 w_60 hp => ?_) (fun _ _ h => h.elim)
            obtain ⟨rfl, F2, rfl, k1, k2⟩ := hp
            rw [if_pos rfl] at k1
            refine z_weq (w' := [zH, zG _ _ _ _]) rfl ?_
            refine z_seq (S' := []) rfl ?_
            refine z_goto F (tgt := 72) dX6_drawLine_63 (by decide) ?_
            exact z_vret F E rfl dX6_drawLine_72 (by omega) (by omega) (⟨rfl, F2, A, rfl, by rw [show dj d (.inl f) x y = .inr 6 from by unfold dj; dsimp only; rw [if_neg (by rw [c_14]; decide), if_neg (fun w => by unfold mayJ at w; simp only [Bool.and_eq_true, decide_eq_true_eq] at w; omega)]]; exact k1, fun g q => (by rw [show dj d (.inl f) x y = .inr 6 from by unfold dj; dsimp only; rw [if_neg (by rw [c_14]; decide), if_neg (fun w => by unfold mayJ at w; simp only [Bool.and_eq_true, decide_eq_true_eq] at w; omega)]] at q; cases q), k2, frm.rf⟩)
      · have ed : dj d (.inl f) x y = .inr 5 := by unfold dj; exact if_pos c_14
        refine z_aload_n F dX6_drawLine_17 rfl ?_
        refine z_iconst F (nI 5) dX6_drawLine_18 rfl ?_
        refine z_callV F (c_mwrong F0 G A B tb z 0 b 5 (by omega) hS0 (by decide)) 1 rfl (lw_V q1808 q1810 qs55 q117 q1811) (by decide +kernel) ⟨Nat.le_of_ble_eq_true rfl, Nat.le_of_ble_eq_true rfl⟩ ⟨by omega, by omega⟩ [0, 1] 2 ⟨rfl, rfl, rfl, ⟨Or.inl rfl, Or.inr rfl, trivial⟩⟩ (fun h => nomatch h) (Nat.le_of_ble_eq_true rfl) ⟨⟨Or.inr trivial, Or.inl rfl, trivial⟩, rfl, rfl, rfl, Nat.le_of_ble_eq_true rfl⟩ rfl zC6 (zat_G0 rfl) rfl dX6_drawLine_19 (fun r_19 w_19 hp => ?_) (fun _ _ h => h.elim)
        obtain ⟨rfl, F2, rfl, k1, k2⟩ := hp
        rw [if_pos rfl] at k1
        refine z_weq (w' := [zH, zG _ _ _ _]) rfl ?_
        refine z_seq (S' := []) rfl ?_
        refine z_goto F (tgt := 72) dX6_drawLine_22 (by decide) ?_
        exact z_vret F E rfl dX6_drawLine_72 (by omega) (by omega) (⟨rfl, F2, A, rfl, by rw [ed]; exact k1, fun g q => (by rw [ed] at q; cases q), k2, frm.rf⟩)
    · cases c_4
  · have he := hs.2 e1 rfl
    refine z_aload_n F dX6_drawLine_0 rfl ?_
    refine z_callV F (c_misGood F0 G A B e1 (by omega) h9) 0 rfl (lw_V q1804 q1806 qs54 q117 q1807) (by decide +kernel) ⟨Nat.le_of_ble_eq_true rfl, Nat.le_of_ble_eq_true rfl⟩ ⟨by omega, by omega⟩ [0, 1] 2 ⟨rfl, rfl, rfl, ⟨Or.inl rfl, Or.inr rfl, trivial⟩⟩ (fun h => nomatch h) (Nat.le_of_ble_eq_true rfl) ⟨⟨Or.inr trivial, Or.inl rfl, trivial⟩, rfl, rfl, rfl, Nat.le_of_ble_eq_true rfl⟩ rfl zC6 (zat_G0 rfl) rfl dX6_drawLine_1 (fun r_1 w_1 hp => ?_) (fun _ _ h => h.elim)
    obtain ⟨rfl, rfl⟩ := hp
    refine z_weq (w' := [zH, zG _ _ _ _]) rfl ?_
    refine z_seq (S' := zi _ :: _) rfl ?_
    refine z_if_neB F (tgt := 8) dX6_drawLine_4 (by decide) (fun c_4 => ?_) (fun c_4 => ?_)
    · exact absurd (of_decide_eq_true c_4) (by omega)
    · exact z_vret F E rfl dX6_drawLine_7 (by omega) (by omega) (⟨rfl, F0, A, rfl, hS0, fun g q => (by cases q), frm.rf, frm.rf⟩)
end C9yv
