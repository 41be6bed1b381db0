/-! Net: small methods -/
abbrev eNet (p : Nat) (n d : Int32) : zE := zO 5 [zi n, zi d, zr p 0]
section C30
theorem c_has (n d : Int32) (f : Nat → Int32) (a b : Nat) (ha : a < 24) (hb : b < 24) : zCtr yX5_has cX5_has 3 (some .boolean) 0 0 0 [zr 1 0, zi (nI a), zi (nI b)] [zH, eNet 2 n d, zAi 0 24 f] (fun r w => r = some (zi (bI (bt (f a) b))) ∧ w = [zH, eNet 2 n d, zAi 0 24 f]) zNx := by
  refine z_start (by decide) [some (zr 1 0), some (zi (nI a)), some (zi (nI b))] rfl (fun _ => Nat.le_of_ble_eq_true rfl) (fun _ => rfl) (fun X F E hno hin => ?_)
  refine z_aload_n F dX5_has_0 rfl ?_
  refine z_get F zC5 (f := 2) rfl (Nat.le_of_ble_eq_true rfl) q249 rfl dX5_has_1 ?_
  refine z_iload_n F dX5_has_4 rfl ?_
  refine z_ialdN F rfl (Nat.le_of_ble_eq_true rfl) (by omega) rfl dX5_has_5 ?_
  refine z_iload_n F dX5_has_6 rfl ?_
  refine z_ishr F dX5_has_7 ?_
  refine z_iconst F (nI 1) dX5_has_8 rfl ?_
  refine z_iandB F (by omega) dX5_has_9 ?_
  refine z_iconst F (nI 1) dX5_has_10 rfl ?_
  refine z_icmp_neB F (tgt := 18) dX5_has_11 (by decide) (fun c_11 => ?_) (fun c_11 => ?_)
  · refine z_iconst F (nI 0) dX5_has_18 rfl ?_
    exact z_zret F E rfl rfl dX5_has_19 (by omega) (by omega) (⟨by rw [c_11]; rfl, rfl⟩)
  · refine z_iconst F (nI 1) dX5_has_14 rfl ?_
    refine z_goto F (tgt := 19) dX5_has_15 (by decide) ?_
    exact z_zret F E rfl rfl dX5_has_19 (by omega) (by omega) (⟨by rw [c_11]; rfl, rfl⟩)
theorem c_set (n d : Int32) (f : Nat → Int32) (a b : Nat) (ha : a < 24) (hb : b < 24) : zCtr yX5_set cX5_set 3 none 0 0 0 [zr 1 0, zi (nI a), zi (nI b)] [zH, eNet 2 n d, zAi 0 24 f] (fun r w => r = none ∧ w = [zH, eNet 2 n d, zAi 0 24 (upd (upd f a (f a ||| b1 b)) b (upd f a (f a ||| b1 b) b ||| b1 a))]) zNx := by
  refine z_start (by decide) [some (zr 1 0), some (zi (nI a)), some (zi (nI b))] rfl (fun _ => Nat.le_of_ble_eq_true rfl) (fun _ => rfl) (fun X F E hno hin => ?_)
  refine z_aload_n F dX5_set_0 rfl ?_
  refine z_get F zC5 (f := 2) rfl (Nat.le_of_ble_eq_true rfl) q249 rfl dX5_set_1 ?_
  refine z_iload_n F dX5_set_4 rfl ?_
  refine z_dup2 F dX5_set_5 rfl rfl ?_
  refine z_ialdN F rfl (Nat.le_of_ble_eq_true rfl) (by omega) rfl dX5_set_6 ?_
  refine z_iconst F (nI 1) dX5_set_7 rfl ?_
  refine z_iload_n F dX5_set_8 rfl ?_
  refine z_ishlB F dX5_set_9 ?_
  refine z_ior F dX5_set_10 ?_
  refine z_iastN F rfl (Nat.le_of_ble_eq_true rfl) (by omega) dX5_set_11 ?_
  refine z_weq (w' := [_, _, _]) rfl ?_
  refine z_aload_n F dX5_set_12 rfl ?_
  refine z_get F zC5 (f := 2) rfl (Nat.le_of_ble_eq_true rfl) q249 rfl dX5_set_13 ?_
  refine z_iload_n F dX5_set_16 rfl ?_
  refine z_dup2 F dX5_set_17 rfl rfl ?_
  refine z_ialdN F rfl (Nat.le_of_ble_eq_true rfl) (by omega) rfl dX5_set_18 ?_
  refine z_iconst F (nI 1) dX5_set_19 rfl ?_
  refine z_iload_n F dX5_set_20 rfl ?_
  refine z_ishlB F dX5_set_21 ?_
  refine z_ior F dX5_set_22 ?_
  refine z_iastN F rfl (Nat.le_of_ble_eq_true rfl) (by omega) dX5_set_23 ?_
  refine z_weq (w' := [_, _, _]) rfl ?_
  exact z_vret F E rfl dX5_set_24 (by omega) (by omega) (⟨rfl, rfl⟩)
theorem c_isJoined (F0 : Nat → Int32) (G : Nat → Int64) (A : Nat → Nat → Int32) (B : Nat → Nat → Int64) (a b : Nat) (ha : a < 24) (hb : b < 24) : zCtr yX6_isJoined cX6_isJoined 3 (some .boolean) 0 0 0 [zr 1 0, zi (nI a), zi (nI b)] [zH, zG F0 G A B] (fun r w => r = some (zi (bI (bt (A 6 a) b))) ∧ w = [zH, zG F0 G A B]) zNx := by
  refine z_start (by decide) [some (zr 1 0), some (zi (nI a)), some (zi (nI b))] rfl (fun _ => Nat.le_of_ble_eq_true rfl) (fun _ => rfl) (fun X F E hno hin => ?_)
  refine z_aload_n F dX6_isJoined_0 rfl ?_
  refine z_ma F rfl 6 rfl (Nat.le_of_ble_eq_true rfl) rfl q1486 dX6_isJoined_1 ?_
  refine z_iload_n F dX6_isJoined_4 rfl ?_
  refine z_ialdGN F rfl rfl (Nat.le_of_ble_eq_true rfl) (by omega) rfl dX6_isJoined_5 ?_
  refine z_iload_n F dX6_isJoined_6 rfl ?_
  refine z_ishr F dX6_isJoined_7 ?_
  refine z_iconst F (nI 1) dX6_isJoined_8 rfl ?_
  refine z_iandB F (by omega) dX6_isJoined_9 ?_
  refine z_iconst F (nI 1) dX6_isJoined_10 rfl ?_
  refine z_icmp_neB F (tgt := 18) dX6_isJoined_11 (by decide) (fun c_11 => ?_) (fun c_11 => ?_)
  · refine z_iconst F (nI 0) dX6_isJoined_18 rfl ?_
    exact z_zret F E rfl rfl dX6_isJoined_19 (by omega) (by omega) (⟨by rw [c_11]; rfl, rfl⟩)
  · refine z_iconst F (nI 1) dX6_isJoined_14 rfl ?_
    refine z_goto F (tgt := 19) dX6_isJoined_15 (by decide) ?_
    exact z_zret F E rfl rfl dX6_isJoined_19 (by omega) (by omega) (⟨by rw [c_11]; rfl, rfl⟩)
end C30
