/-! the program's own exception -/
section CA0
abbrev eWr0 (c s u m b : zV) (dp k : Int32) : zE := zO 8 [c, s, u, m, b, zi dp, zi k]
abbrev eWr (k : Nat) : zE := eWr0 zn zn zn zn zn 0 (nI k)
def eWrg : String := "WiredNets$Wrong"
theorem c_JthrInit : zCtr yJ3_init_2 cJ3_init_2 5 none 1 0 0 [zr 1 0, zn, zn, zi (nI 0), zi (nI 0)] [zH, eWr0 zn zn zn zn zn 0 0] (fun r w => r = none ∧ w = [zH, eWr0 zn zn zn zn zn 0 0]) zNx := by
  refine z_start (by decide) [some (zr 1 0), some zn, some zn, some (zi (nI 0)), some (zi (nI 0))] rfl (fun _ => Nat.le_of_ble_eq_true rfl) (fun _ => rfl) (fun X F E hno hin => ?_)
  have hU := F.2.2.2.2.2.2.2.2.2.2.1.2.2.1.1
  have hN := F.2.2.2.2.2.2.2.2.2.2.1.2.2.2.1.1
  refine z_aload_n F dJ3_init_2_0 rfl ?_
  refine z_objInit F q461 q149 q150 dJ3_init_2_1 (Nat.le_of_ble_eq_true rfl) rfl (Nat.le_of_ble_eq_true rfl) ?_
  refine z_aload_n F dJ3_init_2_4 rfl ?_
  refine z_aload_n F dJ3_init_2_5 rfl ?_
  refine z_put F zC8 (f := 0) rfl (Nat.le_of_ble_eq_true rfl) q489 rfl (fun _ => rfl) (fun _ => rfl) (Nat.le_of_ble_eq_true rfl) dJ3_init_2_6 ?_
  refine z_weq (w' := [_, zO _ [_, _, _, _, _, _, _]]) rfl ?_
  refine z_aload_n F dJ3_init_2_9 rfl ?_
  refine z_getsq F (hU) q462 dJ3_init_2_10 (fun v_10 h_10 => ?_)
  refine z_put F zC8 (f := 1) rfl (Nat.le_of_ble_eq_true rfl) q490 rfl (fun _ => rfl) (fun _ => by rcases h_10 with rfl | ⟨_, rfl⟩ <;> rfl) (Nat.le_of_ble_eq_true rfl) dJ3_init_2_13 ?_
  refine z_weq (w' := [_, zO _ [_, _, _, _, _, _, _]]) rfl ?_
  refine z_aload_n F dJ3_init_2_16 rfl ?_
  refine z_getsq F (hN) q464 dJ3_init_2_17 (fun v_17 h_17 => ?_)
  refine z_put F zC8 (f := 2) rfl (Nat.le_of_ble_eq_true rfl) q491 rfl (fun _ => rfl) (fun _ => by rcases h_17 with rfl | ⟨_, rfl⟩ <;> rfl) (Nat.le_of_ble_eq_true rfl) dJ3_init_2_20 ?_
  refine z_weq (w' := [_, zO _ [_, _, _, _, _, _, _]]) rfl ?_
  refine z_iload F dJ3_init_2_23 rfl ?_
  refine z_if_eqN F (by omega) (tgt := 36) dJ3_init_2_25 (by decide) (fun c_25 => ?_) (fun c_25 => ?_)
  · refine z_aload_n F dJ3_init_2_36 rfl ?_
    refine z_null F dJ3_init_2_37 ?_
    refine z_put F zC8 (f := 1) rfl (Nat.le_of_ble_eq_true rfl) q490 rfl (fun _ => rfl) (fun _ => rfl) (Nat.le_of_ble_eq_true rfl) dJ3_init_2_38 ?_
    refine z_weq (w' := [_, zO _ [_, _, _, _, _, _, _]]) rfl ?_
    refine z_aload_n F dJ3_init_2_41 rfl ?_
    refine z_aloadN_n F dJ3_init_2_42 rfl ?_
    refine z_put F zC8 (f := 3) rfl (Nat.le_of_ble_eq_true rfl) q488 rfl (fun _ => rfl) (fun _ => rfl) (Nat.le_of_ble_eq_true rfl) dJ3_init_2_43 ?_
    refine z_weq (w' := [_, zO _ [_, _, _, _, _, _, _]]) rfl ?_
    refine z_aload_n F dJ3_init_2_46 rfl ?_
    refine z_aloadN_n F dJ3_init_2_47 rfl ?_
    refine z_put F zC8 (f := 0) rfl (Nat.le_of_ble_eq_true rfl) q489 rfl (fun _ => rfl) (fun _ => rfl) (Nat.le_of_ble_eq_true rfl) dJ3_init_2_48 ?_
    refine z_weq (w' := [_, zO _ [_, _, _, _, _, _, _]]) rfl ?_
    refine z_iload_n F dJ3_init_2_51 rfl ?_
    refine z_if_neN F (by omega) (tgt := 60) dJ3_init_2_52 (by decide) (fun c_52 => ?_) (fun c_52 => ?_)
    · exact absurd rfl c_52
    · refine z_aload_n F dJ3_init_2_55 rfl ?_
      refine z_null F dJ3_init_2_56 ?_
      refine z_put F zC8 (f := 2) rfl (Nat.le_of_ble_eq_true rfl) q491 rfl (fun _ => rfl) (fun _ => rfl) (Nat.le_of_ble_eq_true rfl) dJ3_init_2_57 ?_
      refine z_weq (w' := [_, zO _ [_, _, _, _, _, _, _]]) rfl ?_
      exact z_vret F E rfl dJ3_init_2_60 (by omega) (by omega) (⟨rfl, rfl⟩)
  · exact absurd rfl c_25
theorem c_JexcInit : zCtr yJ4_init_2 cJ4_init_2 5 none 2 0 0 [zr 1 0, zn, zn, zi (nI 0), zi (nI 0)] [zH, eWr0 zn zn zn zn zn 0 0] (fun r w => r = none ∧ w = [zH, eWr0 zn zn zn zn zn 0 0]) zNx := by
  refine z_start (by decide) [some (zr 1 0), some zn, some zn, some (zi (nI 0)), some (zi (nI 0))] rfl (fun _ => Nat.le_of_ble_eq_true rfl) (fun _ => rfl) (fun X F E hno hin => ?_)
  refine z_aload_n F dJ4_init_2_0 rfl ?_
  refine z_aloadN_n F dJ4_init_2_1 rfl ?_
  refine z_aloadN_n F dJ4_init_2_2 rfl ?_
  refine z_iload_n F dJ4_init_2_3 rfl ?_
  refine z_iload F dJ4_init_2_4 rfl ?_
  refine z_callI F (c_JthrInit) 4 rfl (lw_meth q699) q118 q697 q698 rfl (by decide +kernel) ⟨Nat.le_of_ble_eq_true rfl, Nat.le_of_ble_eq_true rfl⟩ ⟨by omega, by omega⟩ [0, 1] 2 ⟨rfl, rfl, rfl, ⟨Or.inl rfl, Or.inr rfl, trivial⟩⟩ (fun h => nomatch h) (Nat.le_of_ble_eq_true rfl) ⟨⟨Or.inr trivial, Or.inl rfl, trivial⟩, rfl, rfl, rfl, Nat.le_of_ble_eq_true rfl⟩ rfl rfl dJ4_init_2_6 (fun r_6 w_6 hp => ?_) (fun _ _ h => h.elim)
  obtain ⟨rfl, rfl⟩ := hp
  refine z_weq (w' := [zH, zO _ [zn, zn, zn, zn, zn, zi _, zi _]]) rfl ?_
  refine z_seq (S' := []) rfl ?_
  exact z_vret F E rfl dJ4_init_2_9 (by omega) (by omega) (⟨rfl, rfl⟩)
theorem c_WrongInit (k : Int32) : zCtr yX8_init cX8_init 2 none 3 0 0 [zr 1 0, zi k] [zH, eWr0 zn zn zn zn zn 0 0] (fun r w => r = none ∧ w = [zH, eWr0 zn zn zn zn zn 0 k]) zNx := by
  refine z_start (by decide) [some (zr 1 0), some (zi k)] rfl (fun _ => Nat.le_of_ble_eq_true rfl) (fun _ => rfl) (fun X F E hno hin => ?_)
  refine z_aload_n F dX8_init_0 rfl ?_
  refine z_null F dX8_init_1 ?_
  refine z_null F dX8_init_2 ?_
  refine z_iconst F (nI 0) dX8_init_3 rfl ?_
  refine z_iconst F (nI 0) dX8_init_4 rfl ?_
  refine z_callI F (c_JexcInit) 4 rfl (lw_meth q696) q119 q694 q695 rfl (by decide +kernel) ⟨Nat.le_of_ble_eq_true rfl, Nat.le_of_ble_eq_true rfl⟩ ⟨by omega, by omega⟩ [0, 1] 2 ⟨rfl, rfl, rfl, ⟨Or.inl rfl, Or.inr rfl, trivial⟩⟩ (fun h => nomatch h) (Nat.le_of_ble_eq_true rfl) ⟨⟨Or.inr trivial, Or.inl rfl, trivial⟩, rfl, rfl, rfl, Nat.le_of_ble_eq_true rfl⟩ rfl rfl dX8_init_5 (fun r_5 w_5 hp => ?_) (fun _ _ h => h.elim)
  obtain ⟨rfl, rfl⟩ := hp
  refine z_weq (w' := [zH, zO _ [zn, zn, zn, zn, zn, zi _, zi _]]) rfl ?_
  refine z_seq (S' := []) rfl ?_
  refine z_aload_n F dX8_init_8 rfl ?_
  refine z_iload_n F dX8_init_9 rfl ?_
  refine z_putF F zC8 (f := 6) rfl (Nat.le_of_ble_eq_true rfl) q700 rfl hin rfl (fun _ => rfl) (fun _ => rfl) (Nat.le_of_ble_eq_true rfl) dX8_init_10 ?_
  refine z_weq (w' := [_, zO _ [_, _, _, _, _, _, _]]) rfl ?_
  exact z_vret F E rfl dX8_init_13 (by omega) (by omega) (⟨rfl, rfl⟩)
theorem c_want (b : Bool) (k : Nat) : zCtr yX7_want cX7_want 3 none 4 1 7 [zr 1 0, zi (bI b), zi (nI k)] [zH, zH] (fun r w => b = true ∧ r = none ∧ w = [zH, zH]) (fun E w => E = eWrg ∧ b = false ∧ w = [zH, zH, eWr k]) := by
  refine z_start (by decide) [some (zr 1 0), some (zi (bI b)), some (zi (nI k))] rfl (fun _ => Nat.le_of_ble_eq_true rfl) (fun _ => rfl) (fun X F E hno hin => ?_)
  refine z_iload_n F dX7_want_0 rfl ?_
  refine z_if_neB F (tgt := 13) dX7_want_1 (by decide) (fun c_1 => ?_) (fun c_1 => ?_)
  · exact z_vret F E rfl dX7_want_13 (by omega) (by omega) (⟨c_1, rfl, rfl⟩)
  · refine z_new F 2 [zn, zn, zn, zn, zn, zi 0, zi 0] zC8 q682 q683 q131 (fun _ j hj => by match j, hj with | 0, _ => rfl | 1, _ => rfl | 2, _ => rfl | 3, _ => rfl | 4, _ => rfl | 5, _ => rfl | 6, _ => rfl) rfl (Nat.le_of_ble_eq_true rfl) (Nat.le_of_ble_eq_true rfl) ⟨trivial, trivial, trivial⟩ rfl rfl ⟨by omega, by omega⟩ dX7_want_4 ?_
    refine z_weq (w' := [_, _, _]) rfl ?_
    refine z_dup F dX7_want_7 rfl ?_
    refine z_iload_n F dX7_want_8 rfl ?_
    refine z_callI F (c_WrongInit (nI k)) 1 rfl (lw_meth q693) q131 q691 q692 rfl (by decide +kernel) ⟨Nat.le_of_ble_eq_true rfl, Nat.le_of_ble_eq_true rfl⟩ ⟨by omega, by omega⟩ [0, 2] 3 ⟨rfl, rfl, rfl, ⟨Or.inl rfl, Or.inr rfl, trivial⟩⟩ (fun h => nomatch h) (Nat.le_of_ble_eq_true rfl) ⟨⟨Or.inr trivial, Or.inr trivial, Or.inl rfl, trivial⟩, rfl, rfl, rfl, Nat.le_of_ble_eq_true rfl⟩ rfl rfl dX7_want_9 (fun r_9 w_9 hp => ?_) (fun _ _ h => h.elim)
    obtain ⟨rfl, rfl⟩ := hp
    refine z_weq (w' := [zH, zH, zO _ [zn, zn, zn, zn, zn, zi _, zi _]]) rfl ?_
    refine z_seq (S' := [_]) rfl ?_
    refine z_athrow F zC8 rfl dX7_want_12 ?_
    exact zx_out F E hno (by omega) (by omega) (⟨rfl, c_1, rfl⟩)
end CA0
