/-! the constructors (gena8.py) -/
section CA8
theorem c_JcolInit : zCtr yJ0_init cJ0_init 1 none 1 0 0 [zr 1 0] [zH, zH] (fun r w => r = none ∧ w = [zH, zH]) zNx := by
  refine z_start (by decide) [some (zr 1 0)] rfl (fun _ => Nat.le_of_ble_eq_true rfl) (fun _ => rfl) (fun X F E hno hin => ?_)
  refine z_aload_n F dJ0_init_0 rfl ?_
  refine z_objInit F q207 q149 q150 dJ0_init_1 (Nat.le_of_ble_eq_true rfl) rfl (Nat.le_of_ble_eq_true rfl) ?_
  exact z_vret F E rfl dJ0_init_4 (by omega) (by omega) (⟨rfl, rfl⟩)
theorem c_JalInit : zCtr yJ1_init cJ1_init 1 none 2 0 0 [zr 1 0] [zH, zO 15 [zi 0, zn, zi 0]] (fun r w => r = none ∧ w = [zH, zO 15 [zi (nI 0), zn, zi 0]]) zNx := by
  refine z_start (by decide) [some (zr 1 0)] rfl (fun _ => Nat.le_of_ble_eq_true rfl) (fun _ => rfl) (fun X F E hno hin => ?_)
  refine z_aload_n F dJ1_init_0 rfl ?_
  refine z_callI F (c_JcolInit) 0 rfl (lw_meth q206) q112 q204 q205 rfl (by decide +kernel) ⟨Nat.le_of_ble_eq_true rfl, Nat.le_of_ble_eq_true rfl⟩ ⟨by omega, by omega⟩ [0, 1] 2 ⟨rfl, rfl, rfl, ⟨Or.inl rfl, Or.inl rfl, trivial⟩⟩ (fun h => nomatch h) (Nat.le_of_ble_eq_true rfl) ⟨⟨Or.inr trivial, Or.inr rfl, trivial⟩, rfl, rfl, rfl, Nat.le_of_ble_eq_true rfl⟩ rfl rfl dJ1_init_1 (fun r_1 w_1 hp => ?_) (fun _ _ h => h.elim)
  obtain ⟨rfl, rfl⟩ := hp
  refine z_weq (w' := [zH, zO _ [zi _, zn, zi _]]) rfl ?_
  refine z_seq (S' := []) rfl ?_
  refine z_aload_n F dJ1_init_4 rfl ?_
  refine z_iconst F (nI 0) dJ1_init_5 rfl ?_
  refine z_put F zCL (f := 0) rfl (Nat.le_of_ble_eq_true rfl) q212 rfl (fun _ => rfl) (fun _ => rfl) (Nat.le_of_ble_eq_true rfl) dJ1_init_6 ?_
  refine z_weq (w' := [_, zO _ [_, _, _]]) rfl ?_
  exact z_vret F E rfl dJ1_init_9 (by omega) (by omega) (⟨rfl, rfl⟩)
theorem c_JlistInit (D : va_G) : zCtrD D yJ2_init cJ2_init 1 none 3 0 0 [zr 1 0] [zH, zO 15 [zi 0, zn, zi 0]] (fun r w => r = none ∧ w = [zH, eLs (nI 0) 0 (zq (D.2 1001 1))]) zNx := by
  refine z_startD (by decide) [some (zr 1 0)] rfl (fun _ => Nat.le_of_ble_eq_true rfl) (fun _ => rfl) (fun X hD F E hno hin => ?_)
  subst hD
  refine z_aload_n F dJ2_init_0 rfl ?_
  refine z_callI F (c_JalInit) 0 rfl (lw_meth q203) q113 q201 q202 rfl (by decide +kernel) ⟨Nat.le_of_ble_eq_true rfl, Nat.le_of_ble_eq_true rfl⟩ ⟨by omega, by omega⟩ [0, 1] 2 ⟨rfl, rfl, rfl, ⟨Or.inl rfl, Or.inr rfl, trivial⟩⟩ (fun h => nomatch h) (Nat.le_of_ble_eq_true rfl) ⟨⟨Or.inr trivial, Or.inl rfl, trivial⟩, rfl, rfl, rfl, Nat.le_of_ble_eq_true rfl⟩ rfl rfl dJ2_init_1 (fun r_1 w_1 hp => ?_) (fun _ _ h => h.elim)
  obtain ⟨rfl, rfl⟩ := hp
  refine z_weq (w' := [zH, zO _ [zi _, zn, zi _]]) rfl ?_
  refine z_seq (S' := []) rfl ?_
  refine z_aload_n F dJ2_init_4 rfl ?_
  refine z_gets F (F.con.2.2.2.2.1) q208 dJ2_init_5 ?_
  refine z_put F zCL (f := 1) rfl (Nat.le_of_ble_eq_true rfl) q210 rfl (fun _ => rfl) (fun _ => rfl) (Nat.le_of_ble_eq_true rfl) dJ2_init_8 ?_
  refine z_weq (w' := [_, zO _ [_, _, _]]) rfl ?_
  exact z_vret F E rfl dJ2_init_11 (by omega) (by omega) (⟨rfl, rfl⟩)
theorem c_flowInit : zCtr yX3_init cX3_init 1 none 1 51 2448 [zr 1 0] [zH, zO 3 [zn, zn, zn, zi 0]] (fun r w => r = none ∧ w = [zH, zO 3 [zr 2 0, zr 3 0, zr 4 0, zi 0], zMi 4 0 48 48 (fun _ _ => 0), zAi 0 48 (fun _ => 0), zAi 0 48 (fun _ => 0)]) zNx := by
  refine z_start (by decide) [some (zr 1 0)] rfl (fun _ => Nat.le_of_ble_eq_true rfl) (fun _ => rfl) (fun X F E hno hin => ?_)
  refine z_aload_n F dX3_init_0 rfl ?_
  refine z_objInit F q180 q149 q150 dX3_init_1 (Nat.le_of_ble_eq_true rfl) rfl (Nat.le_of_ble_eq_true rfl) ?_
  refine z_aload_n F dX3_init_4 rfl ?_
  refine z_bipush F (nI 48) dX3_init_5 rfl ?_
  refine z_bipush F (nI 48) dX3_init_7 rfl ?_
  refine z_multiI F 48 48 2 q181 q182 q174 (nI_pos (by omega)) (zcl_n (by omega)) (nI_pos (by omega)) (zcl_n (by omega)) (by decide) rfl (Nat.le_of_ble_eq_true rfl) ⟨trivial, rfl, trivial⟩ rfl rfl ⟨by omega, by omega⟩ dX3_init_9 ?_
  refine z_weq (w' := [_, _, _]) rfl ?_
  refine z_putF F zC3 (f := 0) rfl (Nat.le_of_ble_eq_true rfl) q183 rfl hin rfl (fun _ => rfl) (fun _ => rfl) (Nat.le_of_ble_eq_true rfl) dX3_init_13 ?_
  refine z_weq (w' := [_, zO _ [_, _, _, _], _]) rfl ?_
  refine z_aload_n F dX3_init_16 rfl ?_
  refine z_bipush F (nI 48) dX3_init_17 rfl ?_
  refine z_newaI F 48 3 q174 (nI_pos (by omega)) (zcl_n (by omega)) (by omega) rfl (Nat.le_of_ble_eq_true rfl) ⟨trivial, rfl, trivial, trivial⟩ rfl rfl ⟨by omega, by omega⟩ dX3_init_19 ?_
  refine z_weq (w' := [_, _, _, _]) rfl ?_
  refine z_putF F zC3 (f := 1) rfl (Nat.le_of_ble_eq_true rfl) q184 rfl hin rfl (fun _ => rfl) (fun _ => rfl) (Nat.le_of_ble_eq_true rfl) dX3_init_21 ?_
  refine z_weq (w' := [_, zO _ [_, _, _, _], _, _]) rfl ?_
  refine z_aload_n F dX3_init_24 rfl ?_
  refine z_bipush F (nI 48) dX3_init_25 rfl ?_
  refine z_newaI F 48 4 q174 (nI_pos (by omega)) (zcl_n (by omega)) (by omega) rfl (Nat.le_of_ble_eq_true rfl) ⟨trivial, rfl, trivial, trivial, trivial⟩ rfl rfl ⟨by omega, by omega⟩ dX3_init_27 ?_
  refine z_weq (w' := [_, _, _, _, _]) rfl ?_
  refine z_putF F zC3 (f := 2) rfl (Nat.le_of_ble_eq_true rfl) q185 rfl hin rfl (fun _ => rfl) (fun _ => rfl) (Nat.le_of_ble_eq_true rfl) dX3_init_29 ?_
  refine z_weq (w' := [_, zO _ [_, _, _, _], _, _, _]) rfl ?_
  exact z_vret F E rfl dX3_init_32 (by omega) (by omega) (⟨rfl, rfl⟩)
theorem c_smallInit : zCtr yX4_init cX4_init 1 none 3 9 32902 [zr 1 0] [zH, zO 4 [zn, zn, zn, zn, zn, zi 0, zi 0, zi 0, zi 0, zi 0, zi 0, zn, zn, zi 0]] (fun r w => r = none ∧ ∃ i0 i1 i2 i3 i4 i5, w = [zH, zO 4 [zr 2 0, zr 3 0, zr 4 0, zr 5 0, zr 7 0, zi 0, zi i0, zi i1, zi i2, zi i3, zi i4, zr 9 0, zr 10 0, zi i5], zAi 0 15 (fun _ => 0), zAi 0 15 (fun _ => 0), zAi 2 32768 (fun _ => 0), eFl 6 0 0 0, zAi 0 24 (fun _ => 0), eNet 8 (nI 6) (nI 8), zAi 0 24 (fun _ => 0), zAi 0 6 (fun _ => 0), zAi 0 15 (fun _ => 0)]) zNx := by
  refine z_start (by decide) [some (zr 1 0)] rfl (fun _ => Nat.le_of_ble_eq_true rfl) (fun _ => rfl) (fun X F E hno hin => ?_)
  refine z_aload_n F dX4_init_0 rfl ?_
  refine z_objInit F q227 q149 q150 dX4_init_1 (Nat.le_of_ble_eq_true rfl) rfl (Nat.le_of_ble_eq_true rfl) ?_
  refine z_aload_n F dX4_init_4 rfl ?_
  refine z_bipush F (nI 15) dX4_init_5 rfl ?_
  refine z_newaI F 15 2 q174 (nI_pos (by omega)) (zcl_n (by omega)) (by omega) rfl (Nat.le_of_ble_eq_true rfl) ⟨trivial, rfl, trivial⟩ rfl rfl ⟨by omega, by omega⟩ dX4_init_7 ?_
  refine z_weq (w' := [_, _, _]) rfl ?_
  refine z_putF F zC4 (f := 0) rfl (Nat.le_of_ble_eq_true rfl) q265 rfl hin rfl (fun _ => rfl) (fun _ => rfl) (Nat.le_of_ble_eq_true rfl) dX4_init_9 ?_
  refine z_weq (w' := [_, zO _ [_, _, _, _, _, _, _, _, _, _, _, _, _, _], _]) rfl ?_
  refine z_aload_n F dX4_init_12 rfl ?_
  refine z_bipush F (nI 15) dX4_init_13 rfl ?_
  refine z_newaI F 15 3 q174 (nI_pos (by omega)) (zcl_n (by omega)) (by omega) rfl (Nat.le_of_ble_eq_true rfl) ⟨trivial, rfl, trivial, trivial⟩ rfl rfl ⟨by omega, by omega⟩ dX4_init_15 ?_
  refine z_weq (w' := [_, _, _, _]) rfl ?_
  refine z_putF F zC4 (f := 1) rfl (Nat.le_of_ble_eq_true rfl) q266 rfl hin rfl (fun _ => rfl) (fun _ => rfl) (Nat.le_of_ble_eq_true rfl) dX4_init_17 ?_
  refine z_weq (w' := [_, zO _ [_, _, _, _, _, _, _, _, _, _, _, _, _, _], _, _]) rfl ?_
  refine z_aload_n F dX4_init_20 rfl ?_
  refine z_ldc F dX4_init_21 q228 ?_
  refine z_ieq ((rfl : _ = nI 32768)) ?_
  refine z_newaZ F 32768 4 q264 (nI_pos (by omega)) (zcl_n (by omega)) (by omega) rfl (Nat.le_of_ble_eq_true rfl) ⟨trivial, rfl, trivial, trivial, trivial⟩ rfl rfl ⟨by omega, by omega⟩ dX4_init_23 ?_
  refine z_weq (w' := [_, _, _, _, _]) rfl ?_
  refine z_putF F zC4 (f := 2) rfl (Nat.le_of_ble_eq_true rfl) q267 rfl hin rfl (fun _ => rfl) (fun _ => rfl) (Nat.le_of_ble_eq_true rfl) dX4_init_25 ?_
  refine z_weq (w' := [_, zO _ [_, _, _, _, _, _, _, _, _, _, _, _, _, _], _, _, _]) rfl ?_
  refine z_aload_n F dX4_init_28 rfl ?_
  refine z_new F 5 [zn, zi 0, zi 0, zi 0] zC2 q229 q154 q110 (fun _ j hj => by match j, hj with | 0, _ => rfl | 1, _ => rfl | 2, _ => rfl | 3, _ => rfl) rfl (Nat.le_of_ble_eq_true rfl) (Nat.le_of_ble_eq_true rfl) ⟨trivial, rfl, trivial, trivial, trivial, trivial⟩ rfl rfl ⟨by omega, by omega⟩ dX4_init_29 ?_
  refine z_weq (w' := [_, _, _, _, _, _]) rfl ?_
  refine z_dup F dX4_init_32 rfl ?_
  refine z_callIN F (c_floodInit) 0 rfl (lw_meth q157) q110 q230 q156 rfl (by decide +kernel) ⟨Nat.le_of_ble_eq_true rfl, Nat.le_of_ble_eq_true rfl⟩ ⟨by omega, by omega⟩ [0, 5] 6 ⟨rfl, rfl, rfl, ⟨Or.inl rfl, Or.inr rfl, trivial⟩⟩ (fun h => nomatch h) (Nat.le_of_ble_eq_true rfl) ⟨⟨Or.inr trivial, Or.inr rfl, Or.inr trivial, Or.inr trivial, Or.inr trivial, Or.inl rfl, trivial⟩, rfl, rfl, rfl, Nat.le_of_ble_eq_true rfl⟩ rfl rfl dX4_init_33 (fun r_33 w_33 hp => ?_) (fun _ _ h => h.elim)
  obtain ⟨rfl, rfl⟩ := hp
  refine z_weq (w' := [zH, zO _ [zr _ _, zr _ _, zr _ _, zn, zn, zi _, zi _, zi _, zi _, zi _, zi _, zn, zn, zi _], zAi 0 15 _, zAi 0 15 _, zAi 2 32768 _, zO _ [zr _ _, zi _, zi _, zi _], zAi 0 24 _]) rfl ?_
  refine z_seq (S' := [_, _]) rfl ?_
  refine z_putF F zC4 (f := 3) rfl (Nat.le_of_ble_eq_true rfl) q268 rfl hin rfl (fun _ => rfl) (fun _ => rfl) (Nat.le_of_ble_eq_true rfl) dX4_init_36 ?_
  refine z_weq (w' := [_, zO _ [_, _, _, _, _, _, _, _, _, _, _, _, _, _], _, _, _, _, _]) rfl ?_
  refine z_aload_n F dX4_init_39 rfl ?_
  refine z_new F 7 [zi 0, zi 0, zn] zC5 q231 q232 q116 (fun _ j hj => by match j, hj with | 0, _ => rfl | 1, _ => rfl | 2, _ => rfl) rfl (Nat.le_of_ble_eq_true rfl) (Nat.le_of_ble_eq_true rfl) ⟨trivial, rfl, trivial, trivial, trivial, rfl, trivial, trivial⟩ rfl rfl ⟨by omega, by omega⟩ dX4_init_40 ?_
  refine z_weq (w' := [_, _, _, _, _, _, _, _]) rfl ?_
  refine z_dup F dX4_init_43 rfl ?_
  refine z_bipush F (nI 6) dX4_init_44 rfl ?_
  refine z_bipush F (nI 8) dX4_init_46 rfl ?_
  refine z_callI F (c_netInit (nI 6) (nI 8)) 2 rfl (lw_meth q235) q116 q233 q234 rfl (by decide +kernel) ⟨Nat.le_of_ble_eq_true rfl, Nat.le_of_ble_eq_true rfl⟩ ⟨by omega, by omega⟩ [0, 7] 8 ⟨rfl, rfl, rfl, ⟨Or.inl rfl, Or.inr rfl, trivial⟩⟩ (fun h => nomatch h) (Nat.le_of_ble_eq_true rfl) ⟨⟨Or.inr trivial, Or.inr rfl, Or.inr trivial, Or.inr trivial, Or.inr trivial, Or.inr rfl, Or.inr trivial, Or.inl rfl, trivial⟩, rfl, rfl, rfl, Nat.le_of_ble_eq_true rfl⟩ rfl rfl dX4_init_48 (fun r_48 w_48 hp => ?_) (fun _ _ h => h.elim)
  obtain ⟨rfl, rfl⟩ := hp
  refine z_weq (w' := [zH, zO _ [zr _ _, zr _ _, zr _ _, zr _ _, zn, zi _, zi _, zi _, zi _, zi _, zi _, zn, zn, zi _], zAi 0 15 _, zAi 0 15 _, zAi 2 32768 _, zO _ [zr _ _, zi _, zi _, zi _], zAi 0 24 _, zO _ [zi _, zi _, zr _ _], zAi 0 24 _]) rfl ?_
  refine z_seq (S' := [_, _]) rfl ?_
  refine z_putF F zC4 (f := 4) rfl (Nat.le_of_ble_eq_true rfl) q269 rfl hin rfl (fun _ => rfl) (fun _ => rfl) (Nat.le_of_ble_eq_true rfl) dX4_init_51 ?_
  refine z_weq (w' := [_, zO _ [_, _, _, _, _, _, _, _, _, _, _, _, _, _], _, _, _, _, _, _, _]) rfl ?_
  refine z_aload_n F dX4_init_54 rfl ?_
  refine z_iconst F (-1) dX4_init_55 rfl ?_
  refine z_put F zC4 (f := 9) rfl (Nat.le_of_ble_eq_true rfl) q277 rfl (fun _ => rfl) (fun _ => rfl) (Nat.le_of_ble_eq_true rfl) dX4_init_56 ?_
  refine z_weq (w' := [_, zO _ [_, _, _, _, _, _, _, _, _, _, _, _, _, _], _, _, _, _, _, _, _]) rfl ?_
  refine z_aload_n F dX4_init_59 rfl ?_
  refine z_iconst F (-1) dX4_init_60 rfl ?_
  refine z_put F zC4 (f := 10) rfl (Nat.le_of_ble_eq_true rfl) q279 rfl (fun _ => rfl) (fun _ => rfl) (Nat.le_of_ble_eq_true rfl) dX4_init_61 ?_
  refine z_weq (w' := [_, zO _ [_, _, _, _, _, _, _, _, _, _, _, _, _, _], _, _, _, _, _, _, _]) rfl ?_
  refine z_aload_n F dX4_init_64 rfl ?_
  refine z_bipush F (nI 6) dX4_init_65 rfl ?_
  refine z_newaI F 6 9 q174 (nI_pos (by omega)) (zcl_n (by omega)) (by omega) rfl (Nat.le_of_ble_eq_true rfl) ⟨trivial, rfl, trivial, trivial, trivial, rfl, trivial, rfl, trivial, trivial⟩ rfl rfl ⟨by omega, by omega⟩ dX4_init_67 ?_
  refine z_weq (w' := [_, _, _, _, _, _, _, _, _, _]) rfl ?_
  refine z_putF F zC4 (f := 11) rfl (Nat.le_of_ble_eq_true rfl) q281 rfl hin rfl (fun _ => rfl) (fun _ => rfl) (Nat.le_of_ble_eq_true rfl) dX4_init_69 ?_
  refine z_weq (w' := [_, zO _ [_, _, _, _, _, _, _, _, _, _, _, _, _, _], _, _, _, _, _, _, _, _]) rfl ?_
  refine z_aload_n F dX4_init_72 rfl ?_
  refine z_bipush F (nI 15) dX4_init_73 rfl ?_
  refine z_newaI F 15 10 q174 (nI_pos (by omega)) (zcl_n (by omega)) (by omega) rfl (Nat.le_of_ble_eq_true rfl) ⟨trivial, rfl, trivial, trivial, trivial, rfl, trivial, rfl, trivial, trivial, trivial⟩ rfl rfl ⟨by omega, by omega⟩ dX4_init_75 ?_
  refine z_weq (w' := [_, _, _, _, _, _, _, _, _, _, _]) rfl ?_
  refine z_putF F zC4 (f := 12) rfl (Nat.le_of_ble_eq_true rfl) q282 rfl hin rfl (fun _ => rfl) (fun _ => rfl) (Nat.le_of_ble_eq_true rfl) dX4_init_77 ?_
  refine z_weq (w' := [_, zO _ [_, _, _, _, _, _, _, _, _, _, _, _, _, _], _, _, _, _, _, _, _, _, _]) rfl ?_
  exact z_vret F E rfl dX4_init_80 (by omega) (by omega) (⟨rfl, _, _, _, _, _, _, rfl⟩)
theorem c_pInit (D : va_G) : zCtrD D yX1_init cX1_init 1 none 5 80 36200 [zr 1 0] [zH, zO 1 [zn, zn, zn, zn, zn, zi 0, zi 0, zn, zn]] (fun r w => r = none ∧ ∃ i0 i1 i2 i3 i4 i5, w = [zH, zO 1 [zr 2 0, zr 3 0, zr 4 0, zr 6 0, zr 10 0, zi 0, zi (-1), zr 11 0, zr 21 0], zAr 7 8 (fun _ => zn), zAi 3 400 (fun _ => 0), eFl 5 0 0 0, zAi 0 24 (fun _ => 0), zO 3 [zr 7 0, zr 8 0, zr 9 0, zi 0], zMi 4 0 48 48 (fun _ _ => 0), zAi 0 48 (fun _ => 0), zAi 0 48 (fun _ => 0), eLs (nI 0) 0 (zq (D.2 1001 1)), zO 4 [zr 12 0, zr 13 0, zr 14 0, zr 15 0, zr 17 0, zi 0, zi i0, zi i1, zi i2, zi i3, zi i4, zr 19 0, zr 20 0, zi i5], zAi 0 15 (fun _ => 0), zAi 0 15 (fun _ => 0), zAi 2 32768 (fun _ => 0), eFl 16 0 0 0, zAi 0 24 (fun _ => 0), eNet 18 (nI 6) (nI 8), zAi 0 24 (fun _ => 0), zAi 0 6 (fun _ => 0), zAi 0 15 (fun _ => 0), zAi 0 0 (fun _ => 0)]) zNx := by
  refine z_startD (by decide) [some (zr 1 0)] rfl (fun _ => Nat.le_of_ble_eq_true rfl) (fun _ => rfl) (fun X hD F E hno hin => ?_)
  subst hD
  refine z_aload_n F dX1_init_0 rfl ?_
  refine z_objInit F q148 q149 q150 dX1_init_1 (Nat.le_of_ble_eq_true rfl) rfl (Nat.le_of_ble_eq_true rfl) ?_
  refine z_aload_n F dX1_init_4 rfl ?_
  refine z_bipush F (nI 8) dX1_init_5 rfl ?_
  refine z_newq F (M := 8) 2 (t := 7) (fun _ => rfl) q151 q152 (nI_pos (by omega)) (zcl_n (by omega)) (by omega) rfl (Nat.le_of_ble_eq_true rfl) ⟨trivial, rfl, trivial⟩ rfl rfl ⟨by omega, by omega⟩ dX1_init_7 ?_
  refine z_weq (w' := [zH, zO _ [zn, zn, zn, zn, zn, zi _, zi _, zn, zn], zAr _ 8 _]) rfl ?_
  refine z_putF F zC1 (f := 0) rfl (Nat.le_of_ble_eq_true rfl) q313 rfl hin rfl (fun _ => rfl) (fun _ => rfl) (Nat.le_of_ble_eq_true rfl) dX1_init_10 ?_
  refine z_weq (w' := [_, zO _ [_, _, _, _, _, _, _, _, _], _]) rfl ?_
  refine z_aload_n F dX1_init_13 rfl ?_
  refine z_sipush F (nI 400) dX1_init_14 rfl ?_
  refine z_newaB F 400 3 q173 (nI_pos (by omega)) (zcl_n (by omega)) (by omega) rfl (Nat.le_of_ble_eq_true rfl) ⟨trivial, rfl, (fun _ => rfl), trivial⟩ rfl rfl ⟨by omega, by omega⟩ dX1_init_17 ?_
  refine z_weq (w' := [_, _, _, _]) rfl ?_
  refine z_putF F zC1 (f := 1) rfl (Nat.le_of_ble_eq_true rfl) q315 rfl hin rfl (fun _ => rfl) (fun _ => rfl) (Nat.le_of_ble_eq_true rfl) dX1_init_19 ?_
  refine z_weq (w' := [_, zO _ [_, _, _, _, _, _, _, _, _], _, _]) rfl ?_
  refine z_aload_n F dX1_init_22 rfl ?_
  refine z_new F 4 [zn, zi 0, zi 0, zi 0] zC2 q153 q154 q110 (fun _ j hj => by match j, hj with | 0, _ => rfl | 1, _ => rfl | 2, _ => rfl | 3, _ => rfl) rfl (Nat.le_of_ble_eq_true rfl) (Nat.le_of_ble_eq_true rfl) ⟨trivial, rfl, (fun _ => rfl), trivial, trivial⟩ rfl rfl ⟨by omega, by omega⟩ dX1_init_23 ?_
  refine z_weq (w' := [_, _, _, _, _]) rfl ?_
  refine z_dup F dX1_init_26 rfl ?_
  refine z_callIN F (c_floodInit) 0 rfl (lw_meth q157) q110 q155 q156 rfl (by decide +kernel) ⟨Nat.le_of_ble_eq_true rfl, Nat.le_of_ble_eq_true rfl⟩ ⟨by omega, by omega⟩ [0, 4] 5 ⟨rfl, rfl, rfl, ⟨Or.inl rfl, Or.inr rfl, trivial⟩⟩ (fun h => nomatch h) (Nat.le_of_ble_eq_true rfl) ⟨⟨Or.inr trivial, Or.inr rfl, Or.inr (fun _ => rfl), Or.inr trivial, Or.inl rfl, trivial⟩, rfl, rfl, rfl, Nat.le_of_ble_eq_true rfl⟩ rfl rfl dX1_init_27 (fun r_27 w_27 hp => ?_) (fun _ _ h => h.elim)
  obtain ⟨rfl, rfl⟩ := hp
  refine z_weq (w' := [zH, zO _ [zr _ _, zr _ _, zn, zn, zn, zi _, zi _, zn, zn], zAr _ 8 _, zAi 3 400 _, zO _ [zr _ _, zi _, zi _, zi _], zAi 0 24 _]) rfl ?_
  refine z_seq (S' := [_, _]) rfl ?_
  refine z_putF F zC1 (f := 2) rfl (Nat.le_of_ble_eq_true rfl) q316 rfl hin rfl (fun _ => rfl) (fun _ => rfl) (Nat.le_of_ble_eq_true rfl) dX1_init_30 ?_
  refine z_weq (w' := [_, zO _ [_, _, _, _, _, _, _, _, _], _, _, _, _]) rfl ?_
  refine z_aload_n F dX1_init_33 rfl ?_
  refine z_new F 6 [zn, zn, zn, zi 0] zC3 q175 q176 q111 (fun _ j hj => by match j, hj with | 0, _ => rfl | 1, _ => rfl | 2, _ => rfl | 3, _ => rfl) rfl (Nat.le_of_ble_eq_true rfl) (Nat.le_of_ble_eq_true rfl) ⟨trivial, rfl, (fun _ => rfl), trivial, rfl, trivial, trivial⟩ rfl rfl ⟨by omega, by omega⟩ dX1_init_34 ?_
  refine z_weq (w' := [_, _, _, _, _, _, _]) rfl ?_
  refine z_dup F dX1_init_37 rfl ?_
  refine z_callIN F (c_flowInit) 0 rfl (lw_meth q179) q111 q177 q178 rfl (by decide +kernel) ⟨Nat.le_of_ble_eq_true rfl, Nat.le_of_ble_eq_true rfl⟩ ⟨by omega, by omega⟩ [0, 6] 7 ⟨rfl, rfl, rfl, ⟨Or.inl rfl, Or.inr rfl, trivial⟩⟩ (fun h => nomatch h) (Nat.le_of_ble_eq_true rfl) ⟨⟨Or.inr trivial, Or.inr rfl, Or.inr (fun _ => rfl), Or.inr trivial, Or.inr rfl, Or.inr trivial, Or.inl rfl, trivial⟩, rfl, rfl, rfl, Nat.le_of_ble_eq_true rfl⟩ rfl rfl dX1_init_38 (fun r_38 w_38 hp => ?_) (fun _ _ h => h.elim)
  obtain ⟨rfl, rfl⟩ := hp
  refine z_weq (w' := [zH, zO _ [zr _ _, zr _ _, zr _ _, zn, zn, zi _, zi _, zn, zn], zAr _ 8 _, zAi 3 400 _, zO _ [zr _ _, zi _, zi _, zi _], zAi 0 24 _, zO _ [zr _ _, zr _ _, zr _ _, zi _], zMi 4 0 48 48 _, zAi 0 48 _, zAi 0 48 _]) rfl ?_
  refine z_seq (S' := [_, _]) rfl ?_
  refine z_putF F zC1 (f := 3) rfl (Nat.le_of_ble_eq_true rfl) q317 rfl hin rfl (fun _ => rfl) (fun _ => rfl) (Nat.le_of_ble_eq_true rfl) dX1_init_41 ?_
  refine z_weq (w' := [_, zO _ [_, _, _, _, _, _, _, _, _], _, _, _, _, _, _, _, _]) rfl ?_
  refine z_aload_n F dX1_init_44 rfl ?_
  refine z_new F 10 [zi 0, zn, zi 0] zCL q196 q197 q114 (fun _ j hj => by match j, hj with | 0, _ => rfl | 1, _ => rfl | 2, _ => rfl) rfl (Nat.le_of_ble_eq_true rfl) (Nat.le_of_ble_eq_true rfl) ⟨trivial, rfl, (fun _ => rfl), trivial, rfl, trivial, rfl, trivial, trivial, trivial, trivial⟩ rfl rfl ⟨by omega, by omega⟩ dX1_init_45 ?_
  refine z_weq (w' := [_, _, _, _, _, _, _, _, _, _, _]) rfl ?_
  refine z_dup F dX1_init_48 rfl ?_
  refine z_callID F (c_JlistInit _) 0 rfl (lw_meth q200) q114 q198 q199 rfl (by decide +kernel) ⟨Nat.le_of_ble_eq_true rfl, Nat.le_of_ble_eq_true rfl⟩ ⟨by omega, by omega⟩ [0, 10] 11 ⟨rfl, rfl, rfl, ⟨Or.inl rfl, Or.inr rfl, trivial⟩⟩ (fun h => nomatch h) (Nat.le_of_ble_eq_true rfl) ⟨⟨Or.inr trivial, Or.inr rfl, Or.inr (fun _ => rfl), Or.inr trivial, Or.inr rfl, Or.inr trivial, Or.inr rfl, Or.inr trivial, Or.inr trivial, Or.inr trivial, Or.inl rfl, trivial⟩, rfl, rfl, rfl, Nat.le_of_ble_eq_true rfl⟩ rfl rfl dX1_init_49 (fun r_49 w_49 hp => ?_) (fun _ _ h => h.elim)
  obtain ⟨rfl, rfl⟩ := hp
  refine z_weq (w' := [zH, zO _ [zr _ _, zr _ _, zr _ _, zr _ _, zn, zi _, zi _, zn, zn], zAr _ 8 _, zAi 3 400 _, zO _ [zr _ _, zi _, zi _, zi _], zAi 0 24 _, zO _ [zr _ _, zr _ _, zr _ _, zi _], zMi 4 0 48 48 _, zAi 0 48 _, zAi 0 48 _, zO _ [zi _, zq _, zi _]]) rfl ?_
  refine z_seq (S' := [_, _]) rfl ?_
  refine z_putF F zC1 (f := 4) rfl (Nat.le_of_ble_eq_true rfl) q318 rfl hin rfl (fun _ => rfl) (fun _ => rfl) (Nat.le_of_ble_eq_true rfl) dX1_init_52 ?_
  refine z_weq (w' := [_, zO _ [_, _, _, _, _, _, _, _, _], _, _, _, _, _, _, _, _, _]) rfl ?_
  refine z_aload_n F dX1_init_55 rfl ?_
  refine z_iconst F (-1) dX1_init_56 rfl ?_
  refine z_put F zC1 (f := 6) rfl (Nat.le_of_ble_eq_true rfl) q320 rfl (fun _ => rfl) (fun _ => rfl) (Nat.le_of_ble_eq_true rfl) dX1_init_57 ?_
  refine z_weq (w' := [_, zO _ [_, _, _, _, _, _, _, _, _], _, _, _, _, _, _, _, _, _]) rfl ?_
  refine z_aload_n F dX1_init_60 rfl ?_
  refine z_new F 11 [zn, zn, zn, zn, zn, zi 0, zi 0, zi 0, zi 0, zi 0, zi 0, zn, zn, zi 0] zC4 q222 q223 q115 (fun _ j hj => by match j, hj with | 0, _ => rfl | 1, _ => rfl | 2, _ => rfl | 3, _ => rfl | 4, _ => rfl | 5, _ => rfl | 6, _ => rfl | 7, _ => rfl | 8, _ => rfl | 9, _ => rfl | 10, _ => rfl | 11, _ => rfl | 12, _ => rfl | 13, _ => rfl) rfl (Nat.le_of_ble_eq_true rfl) (Nat.le_of_ble_eq_true rfl) ⟨trivial, rfl, (fun _ => rfl), trivial, rfl, trivial, rfl, trivial, trivial, trivial, rfl, trivial⟩ rfl rfl ⟨by omega, by omega⟩ dX1_init_61 ?_
  refine z_weq (w' := [_, _, _, _, _, _, _, _, _, _, _, _]) rfl ?_
  refine z_dup F dX1_init_64 rfl ?_
  refine z_callIN F (c_smallInit) 0 rfl (lw_meth q226) q115 q224 q225 rfl (by decide +kernel) ⟨Nat.le_of_ble_eq_true rfl, Nat.le_of_ble_eq_true rfl⟩ ⟨by omega, by omega⟩ [0, 11] 12 ⟨rfl, rfl, rfl, ⟨Or.inl rfl, Or.inr rfl, trivial⟩⟩ (fun h => nomatch h) (Nat.le_of_ble_eq_true rfl) ⟨⟨Or.inr trivial, Or.inr rfl, Or.inr (fun _ => rfl), Or.inr trivial, Or.inr rfl, Or.inr trivial, Or.inr rfl, Or.inr trivial, Or.inr trivial, Or.inr trivial, Or.inr rfl, Or.inl rfl, trivial⟩, rfl, rfl, rfl, Nat.le_of_ble_eq_true rfl⟩ rfl rfl dX1_init_65 (fun r_65 w_65 hp => ?_) (fun _ _ h => h.elim)
  obtain ⟨rfl, i0, i1, i2, i3, i4, i5, rfl⟩ := hp
  refine z_weq (w' := [zH, zO _ [zr _ _, zr _ _, zr _ _, zr _ _, zr _ _, zi _, zi _, zn, zn], zAr _ 8 _, zAi 3 400 _, zO _ [zr _ _, zi _, zi _, zi _], zAi 0 24 _, zO _ [zr _ _, zr _ _, zr _ _, zi _], zMi 4 0 48 48 _, zAi 0 48 _, zAi 0 48 _, zO _ [zi _, zq _, zi _], zO _ [zr _ _, zr _ _, zr _ _, zr _ _, zr _ _, zi _, zi _, zi _, zi _, zi _, zi _, zr _ _, zr _ _, zi _], zAi 0 15 _, zAi 0 15 _, zAi 2 32768 _, zO _ [zr _ _, zi _, zi _, zi _], zAi 0 24 _, zO _ [zi _, zi _, zr _ _], zAi 0 24 _, zAi 0 6 _, zAi 0 15 _]) rfl ?_
  refine z_seq (S' := [_, _]) rfl ?_
  refine z_putF F zC1 (f := 7) rfl (Nat.le_of_ble_eq_true rfl) q321 rfl hin rfl (fun _ => rfl) (fun _ => rfl) (Nat.le_of_ble_eq_true rfl) dX1_init_68 ?_
  refine z_weq (w' := [_, zO _ [_, _, _, _, _, _, _, _, _], _, _, _, _, _, _, _, _, _, _, _, _, _, _, _, _, _, _, _]) rfl ?_
  refine z_aload_n F dX1_init_71 rfl ?_
  refine z_iconst F (nI 0) dX1_init_72 rfl ?_
  refine z_newaI F 0 21 q174 (nI_pos (by omega)) (zcl_n (by omega)) (by omega) rfl (Nat.le_of_ble_eq_true rfl) ⟨trivial, rfl, (fun _ => rfl), trivial, rfl, trivial, rfl, trivial, trivial, trivial, rfl, rfl, trivial, trivial, trivial, rfl, trivial, rfl, trivial, trivial, trivial, trivial⟩ rfl rfl ⟨by omega, by omega⟩ dX1_init_73 ?_
  refine z_weq (w' := [_, _, _, _, _, _, _, _, _, _, _, _, _, _, _, _, _, _, _, _, _, _]) rfl ?_
  refine z_put F zC1 (f := 8) rfl (Nat.le_of_ble_eq_true rfl) q322 rfl (fun _ => rfl) (fun _ => rfl) (Nat.le_of_ble_eq_true rfl) dX1_init_75 ?_
  refine z_weq (w' := [_, zO _ [_, _, _, _, _, _, _, _, _], _, _, _, _, _, _, _, _, _, _, _, _, _, _, _, _, _, _, _, _]) rfl ?_
  exact z_vret F E rfl dX1_init_78 (by omega) (by omega) (⟨rfl, i0, i1, i2, i3, i4, i5, rfl⟩)
abbrev mRaw : List zV := [zi 0, zr 2 0, zr 3 0, zr 4 0, zi 0, zi 0, zr 5 0, zr 6 0, zi 0, zi 0, zi (-1), zi 0, zi 0, zi 0, zi 0, zi 0, zi 0, zl 0, zr 7 0, zi 0, zi 0, zr 8 0, zr 9 0, zr 10 0, zi 0, zi 0, zr 11 0, zr 12 0, zr 13 0, zr 14 0, zr 15 0, zr 16 0, zr 17 0, zr 18 0, zi 0, zr 19 0, zr 20 0, zr 21 0, zi 0, zi 0, zi 0, zi 0, zi 0, zr 22 0, zr 23 0, zi 0, zi 0, zi 0, zi 0, zi 0, zr 24 0, zr 25 0, zr 26 0, zr 27 0, zr 28 0, zr 29 0, zr 30 0, zr 31 0, zi 0, zr 32 0, zi 0, zi 0, zr 33 0, zr 34 0, zr 35 0, zr 36 0, zr 37 0, zr 38 0, zr 39 0, zr 40 0, zr 41 0, zr 42 0, zr 43 0, zr 44 0, zr 45 0]
abbrev mArr : List zE := [zAi 0 8 (fun _ => 0), zAi 0 8 (fun _ => 0), zAi 0 192 (fun _ => 0), zAi 0 24 (fun _ => 0), zAi 0 400 (fun _ => 0), zAi 0 13 (fun _ => 0), zAi 0 96 (fun _ => 0), zAi 0 96 (fun _ => 0), zAi 0 576 (fun _ => 0), zAi 0 2304 (fun _ => 0), zAi 0 48 (fun _ => 0), zAi 0 48 (fun _ => 0), zAl 1 13 (fun _ => 0), zAl 1 144 (fun _ => 0), zAl 1 144 (fun _ => 0), zAl 1 24 (fun _ => 0), zAl 1 24 (fun _ => 0), zAi 0 11250 (fun _ => 0), zAi 0 24 (fun _ => 0), zAi 0 25 (fun _ => 0), zAi 0 576 (fun _ => 0), zAi 0 24 (fun _ => 0), zAi 2 32768 (fun _ => 0), zAi 2 32768 (fun _ => 0), zAi 0 36 (fun _ => 0), zAi 0 6 (fun _ => 0), zAi 0 504 (fun _ => 0), zAi 0 504 (fun _ => 0), zAi 0 504 (fun _ => 0), zAi 0 504 (fun _ => 0), zAi 0 2 (fun _ => 0), zAi 0 24 (fun _ => 0), zAi 0 24 (fun _ => 0), zAi 0 24 (fun _ => 0), zAi 0 576 (fun _ => 0), zAi 2 576 (fun _ => 0), zAi 0 576 (fun _ => 0), zAi 0 24 (fun _ => 0), zAi 0 24 (fun _ => 0), zAi 0 24 (fun _ => 0), zAi 0 24 (fun _ => 0), zAi 0 48 (fun _ => 0), zAi 2 1024 (fun _ => 0), zAi 2 1024 (fun _ => 0)]
theorem c_mInit : zCtr yX6_init cX6_init 1 none 1 44 87649 [zr 1 0] [zH, zO 6 [zi 0, zn, zn, zn, zi 0, zi 0, zn, zn, zi 0, zi 0, zi 0, zi 0, zi 0, zi 0, zi 0, zi 0, zi 0, zl 0, zn, zi 0, zi 0, zn, zn, zn, zi 0, zi 0, zn, zn, zn, zn, zn, zn, zn, zn, zi 0, zn, zn, zn, zi 0, zi 0, zi 0, zi 0, zi 0, zn, zn, zi 0, zi 0, zi 0, zi 0, zi 0, zn, zn, zn, zn, zn, zn, zn, zn, zi 0, zn, zi 0, zi 0, zn, zn, zn, zn, zn, zn, zn, zn, zn, zn, zn, zn, zn]] (fun r w => r = none ∧ w = zH :: zO 6 mRaw :: mArr) zNx := by
  refine z_start (by decide) [some (zr 1 0)] rfl (fun _ => Nat.le_of_ble_eq_true rfl) (fun _ => rfl) (fun X F E hno hin => ?_)
  refine z_aload_n F dX6_init_0 rfl ?_
  refine z_objInit F q1478 q149 q150 dX6_init_1 (Nat.le_of_ble_eq_true rfl) rfl (Nat.le_of_ble_eq_true rfl) ?_
  refine z_aload_n F dX6_init_4 rfl ?_
  refine z_bipush F (nI 8) dX6_init_5 rfl ?_
  refine z_newaI F 8 2 q174 (nI_pos (by omega)) (zcl_n (by omega)) (by omega) rfl (Nat.le_of_ble_eq_true rfl) ⟨trivial, rfl, trivial⟩ rfl rfl ⟨by omega, by omega⟩ dX6_init_7 ?_
  refine z_weq (w' := [_, _, _]) rfl ?_
  refine z_putF F zC6 (f := 1) rfl (Nat.le_of_ble_eq_true rfl) q1481 rfl hin rfl (fun _ => rfl) (fun _ => rfl) (Nat.le_of_ble_eq_true rfl) dX6_init_9 ?_
  refine z_weq (w' := [_, zO _ [_, _, _, _, _, _, _, _, _, _, _, _, _, _, _, _, _, _, _, _, _, _, _, _, _, _, _, _, _, _, _, _, _, _, _, _, _, _, _, _, _, _, _, _, _, _, _, _, _, _, _, _, _, _, _, _, _, _, _, _, _, _, _, _, _, _, _, _, _, _, _, _, _, _, _], _]) rfl ?_
  refine z_aload_n F dX6_init_12 rfl ?_
  refine z_bipush F (nI 8) dX6_init_13 rfl ?_
  refine z_newaI F 8 3 q174 (nI_pos (by omega)) (zcl_n (by omega)) (by omega) rfl (Nat.le_of_ble_eq_true rfl) ⟨trivial, rfl, trivial, trivial⟩ rfl rfl ⟨by omega, by omega⟩ dX6_init_15 ?_
  refine z_weq (w' := [_, _, _, _]) rfl ?_
  refine z_putF F zC6 (f := 2) rfl (Nat.le_of_ble_eq_true rfl) q1482 rfl hin rfl (fun _ => rfl) (fun _ => rfl) (Nat.le_of_ble_eq_true rfl) dX6_init_17 ?_
  refine z_weq (w' := [_, zO _ [_, _, _, _, _, _, _, _, _, _, _, _, _, _, _, _, _, _, _, _, _, _, _, _, _, _, _, _, _, _, _, _, _, _, _, _, _, _, _, _, _, _, _, _, _, _, _, _, _, _, _, _, _, _, _, _, _, _, _, _, _, _, _, _, _, _, _, _, _, _, _, _, _, _, _], _, _]) rfl ?_
  refine z_aload_n F dX6_init_20 rfl ?_
  refine z_sipush F (nI 192) dX6_init_21 rfl ?_
  refine z_newaI F 192 4 q174 (nI_pos (by omega)) (zcl_n (by omega)) (by omega) rfl (Nat.le_of_ble_eq_true rfl) ⟨trivial, rfl, trivial, trivial, trivial⟩ rfl rfl ⟨by omega, by omega⟩ dX6_init_24 ?_
  refine z_weq (w' := [_, _, _, _, _]) rfl ?_
  refine z_putF F zC6 (f := 3) rfl (Nat.le_of_ble_eq_true rfl) q1483 rfl hin rfl (fun _ => rfl) (fun _ => rfl) (Nat.le_of_ble_eq_true rfl) dX6_init_26 ?_
  refine z_weq (w' := [_, zO _ [_, _, _, _, _, _, _, _, _, _, _, _, _, _, _, _, _, _, _, _, _, _, _, _, _, _, _, _, _, _, _, _, _, _, _, _, _, _, _, _, _, _, _, _, _, _, _, _, _, _, _, _, _, _, _, _, _, _, _, _, _, _, _, _, _, _, _, _, _, _, _, _, _, _, _], _, _, _]) rfl ?_
  refine z_aload_n F dX6_init_29 rfl ?_
  refine z_bipush F (nI 24) dX6_init_30 rfl ?_
  refine z_newaI F 24 5 q174 (nI_pos (by omega)) (zcl_n (by omega)) (by omega) rfl (Nat.le_of_ble_eq_true rfl) ⟨trivial, rfl, trivial, trivial, trivial, trivial⟩ rfl rfl ⟨by omega, by omega⟩ dX6_init_32 ?_
  refine z_weq (w' := [_, _, _, _, _, _]) rfl ?_
  refine z_putF F zC6 (f := 6) rfl (Nat.le_of_ble_eq_true rfl) q1486 rfl hin rfl (fun _ => rfl) (fun _ => rfl) (Nat.le_of_ble_eq_true rfl) dX6_init_34 ?_
  refine z_weq (w' := [_, zO _ [_, _, _, _, _, _, _, _, _, _, _, _, _, _, _, _, _, _, _, _, _, _, _, _, _, _, _, _, _, _, _, _, _, _, _, _, _, _, _, _, _, _, _, _, _, _, _, _, _, _, _, _, _, _, _, _, _, _, _, _, _, _, _, _, _, _, _, _, _, _, _, _, _, _, _], _, _, _, _]) rfl ?_
  refine z_aload_n F dX6_init_37 rfl ?_
  refine z_sipush F (nI 400) dX6_init_38 rfl ?_
  refine z_newaI F 400 6 q174 (nI_pos (by omega)) (zcl_n (by omega)) (by omega) rfl (Nat.le_of_ble_eq_true rfl) ⟨trivial, rfl, trivial, trivial, trivial, trivial, trivial⟩ rfl rfl ⟨by omega, by omega⟩ dX6_init_41 ?_
  refine z_weq (w' := [_, _, _, _, _, _, _]) rfl ?_
  refine z_putF F zC6 (f := 7) rfl (Nat.le_of_ble_eq_true rfl) q1487 rfl hin rfl (fun _ => rfl) (fun _ => rfl) (Nat.le_of_ble_eq_true rfl) dX6_init_43 ?_
  refine z_weq (w' := [_, zO _ [_, _, _, _, _, _, _, _, _, _, _, _, _, _, _, _, _, _, _, _, _, _, _, _, _, _, _, _, _, _, _, _, _, _, _, _, _, _, _, _, _, _, _, _, _, _, _, _, _, _, _, _, _, _, _, _, _, _, _, _, _, _, _, _, _, _, _, _, _, _, _, _, _, _, _], _, _, _, _, _]) rfl ?_
  refine z_aload_n F dX6_init_46 rfl ?_
  refine z_iconst F (-1) dX6_init_47 rfl ?_
  refine z_put F zC6 (f := 10) rfl (Nat.le_of_ble_eq_true rfl) q1490 rfl (fun _ => rfl) (fun _ => rfl) (Nat.le_of_ble_eq_true rfl) dX6_init_48 ?_
  refine z_weq (w' := [_, zO _ [_, _, _, _, _, _, _, _, _, _, _, _, _, _, _, _, _, _, _, _, _, _, _, _, _, _, _, _, _, _, _, _, _, _, _, _, _, _, _, _, _, _, _, _, _, _, _, _, _, _, _, _, _, _, _, _, _, _, _, _, _, _, _, _, _, _, _, _, _, _, _, _, _, _, _], _, _, _, _, _]) rfl ?_
  refine z_aload_n F dX6_init_51 rfl ?_
  refine z_bipush F (nI 13) dX6_init_52 rfl ?_
  refine z_newaI F 13 7 q174 (nI_pos (by omega)) (zcl_n (by omega)) (by omega) rfl (Nat.le_of_ble_eq_true rfl) ⟨trivial, rfl, trivial, trivial, trivial, trivial, trivial, trivial⟩ rfl rfl ⟨by omega, by omega⟩ dX6_init_54 ?_
  refine z_weq (w' := [_, _, _, _, _, _, _, _]) rfl ?_
  refine z_putF F zC6 (f := 18) rfl (Nat.le_of_ble_eq_true rfl) q1498 rfl hin rfl (fun _ => rfl) (fun _ => rfl) (Nat.le_of_ble_eq_true rfl) dX6_init_56 ?_
  refine z_weq (w' := [_, zO _ [_, _, _, _, _, _, _, _, _, _, _, _, _, _, _, _, _, _, _, _, _, _, _, _, _, _, _, _, _, _, _, _, _, _, _, _, _, _, _, _, _, _, _, _, _, _, _, _, _, _, _, _, _, _, _, _, _, _, _, _, _, _, _, _, _, _, _, _, _, _, _, _, _, _, _], _, _, _, _, _, _]) rfl ?_
  refine z_aload_n F dX6_init_59 rfl ?_
  refine z_bipush F (nI 96) dX6_init_60 rfl ?_
  refine z_newaI F 96 8 q174 (nI_pos (by omega)) (zcl_n (by omega)) (by omega) rfl (Nat.le_of_ble_eq_true rfl) ⟨trivial, rfl, trivial, trivial, trivial, trivial, trivial, trivial, trivial⟩ rfl rfl ⟨by omega, by omega⟩ dX6_init_62 ?_
  refine z_weq (w' := [_, _, _, _, _, _, _, _, _]) rfl ?_
  refine z_putF F zC6 (f := 21) rfl (Nat.le_of_ble_eq_true rfl) q1501 rfl hin rfl (fun _ => rfl) (fun _ => rfl) (Nat.le_of_ble_eq_true rfl) dX6_init_64 ?_
  refine z_weq (w' := [_, zO _ [_, _, _, _, _, _, _, _, _, _, _, _, _, _, _, _, _, _, _, _, _, _, _, _, _, _, _, _, _, _, _, _, _, _, _, _, _, _, _, _, _, _, _, _, _, _, _, _, _, _, _, _, _, _, _, _, _, _, _, _, _, _, _, _, _, _, _, _, _, _, _, _, _, _, _], _, _, _, _, _, _, _]) rfl ?_
  refine z_aload_n F dX6_init_67 rfl ?_
  refine z_bipush F (nI 96) dX6_init_68 rfl ?_
  refine z_newaI F 96 9 q174 (nI_pos (by omega)) (zcl_n (by omega)) (by omega) rfl (Nat.le_of_ble_eq_true rfl) ⟨trivial, rfl, trivial, trivial, trivial, trivial, trivial, trivial, trivial, trivial⟩ rfl rfl ⟨by omega, by omega⟩ dX6_init_70 ?_
  refine z_weq (w' := [_, _, _, _, _, _, _, _, _, _]) rfl ?_
  refine z_putF F zC6 (f := 22) rfl (Nat.le_of_ble_eq_true rfl) q1502 rfl hin rfl (fun _ => rfl) (fun _ => rfl) (Nat.le_of_ble_eq_true rfl) dX6_init_72 ?_
  refine z_weq (w' := [_, zO _ [_, _, _, _, _, _, _, _, _, _, _, _, _, _, _, _, _, _, _, _, _, _, _, _, _, _, _, _, _, _, _, _, _, _, _, _, _, _, _, _, _, _, _, _, _, _, _, _, _, _, _, _, _, _, _, _, _, _, _, _, _, _, _, _, _, _, _, _, _, _, _, _, _, _, _], _, _, _, _, _, _, _, _]) rfl ?_
  refine z_aload_n F dX6_init_75 rfl ?_
  refine z_sipush F (nI 576) dX6_init_76 rfl ?_
  refine z_newaI F 576 10 q174 (nI_pos (by omega)) (zcl_n (by omega)) (by omega) rfl (Nat.le_of_ble_eq_true rfl) ⟨trivial, rfl, trivial, trivial, trivial, trivial, trivial, trivial, trivial, trivial, trivial⟩ rfl rfl ⟨by omega, by omega⟩ dX6_init_79 ?_
  refine z_weq (w' := [_, _, _, _, _, _, _, _, _, _, _]) rfl ?_
  refine z_putF F zC6 (f := 23) rfl (Nat.le_of_ble_eq_true rfl) q1503 rfl hin rfl (fun _ => rfl) (fun _ => rfl) (Nat.le_of_ble_eq_true rfl) dX6_init_81 ?_
  refine z_weq (w' := [_, zO _ [_, _, _, _, _, _, _, _, _, _, _, _, _, _, _, _, _, _, _, _, _, _, _, _, _, _, _, _, _, _, _, _, _, _, _, _, _, _, _, _, _, _, _, _, _, _, _, _, _, _, _, _, _, _, _, _, _, _, _, _, _, _, _, _, _, _, _, _, _, _, _, _, _, _, _], _, _, _, _, _, _, _, _, _]) rfl ?_
  refine z_aload_n F dX6_init_84 rfl ?_
  refine z_sipush F (nI 2304) dX6_init_85 rfl ?_
  refine z_newaI F 2304 11 q174 (nI_pos (by omega)) (zcl_n (by omega)) (by omega) rfl (Nat.le_of_ble_eq_true rfl) ⟨trivial, rfl, trivial, trivial, trivial, trivial, trivial, trivial, trivial, trivial, trivial, trivial⟩ rfl rfl ⟨by omega, by omega⟩ dX6_init_88 ?_
  refine z_weq (w' := [_, _, _, _, _, _, _, _, _, _, _, _]) rfl ?_
  refine z_putF F zC6 (f := 26) rfl (Nat.le_of_ble_eq_true rfl) q1506 rfl hin rfl (fun _ => rfl) (fun _ => rfl) (Nat.le_of_ble_eq_true rfl) dX6_init_90 ?_
  refine z_weq (w' := [_, zO _ [_, _, _, _, _, _, _, _, _, _, _, _, _, _, _, _, _, _, _, _, _, _, _, _, _, _, _, _, _, _, _, _, _, _, _, _, _, _, _, _, _, _, _, _, _, _, _, _, _, _, _, _, _, _, _, _, _, _, _, _, _, _, _, _, _, _, _, _, _, _, _, _, _, _, _], _, _, _, _, _, _, _, _, _, _]) rfl ?_
  refine z_aload_n F dX6_init_93 rfl ?_
  refine z_bipush F (nI 48) dX6_init_94 rfl ?_
  refine z_newaI F 48 12 q174 (nI_pos (by omega)) (zcl_n (by omega)) (by omega) rfl (Nat.le_of_ble_eq_true rfl) ⟨trivial, rfl, trivial, trivial, trivial, trivial, trivial, trivial, trivial, trivial, trivial, trivial, trivial⟩ rfl rfl ⟨by omega, by omega⟩ dX6_init_96 ?_
  refine z_weq (w' := [_, _, _, _, _, _, _, _, _, _, _, _, _]) rfl ?_
  refine z_putF F zC6 (f := 27) rfl (Nat.le_of_ble_eq_true rfl) q1507 rfl hin rfl (fun _ => rfl) (fun _ => rfl) (Nat.le_of_ble_eq_true rfl) dX6_init_98 ?_
  refine z_weq (w' := [_, zO _ [_, _, _, _, _, _, _, _, _, _, _, _, _, _, _, _, _, _, _, _, _, _, _, _, _, _, _, _, _, _, _, _, _, _, _, _, _, _, _, _, _, _, _, _, _, _, _, _, _, _, _, _, _, _, _, _, _, _, _, _, _, _, _, _, _, _, _, _, _, _, _, _, _, _, _], _, _, _, _, _, _, _, _, _, _, _]) rfl ?_
  refine z_aload_n F dX6_init_101 rfl ?_
  refine z_bipush F (nI 48) dX6_init_102 rfl ?_
  refine z_newaI F 48 13 q174 (nI_pos (by omega)) (zcl_n (by omega)) (by omega) rfl (Nat.le_of_ble_eq_true rfl) ⟨trivial, rfl, trivial, trivial, trivial, trivial, trivial, trivial, trivial, trivial, trivial, trivial, trivial, trivial⟩ rfl rfl ⟨by omega, by omega⟩ dX6_init_104 ?_
  refine z_weq (w' := [_, _, _, _, _, _, _, _, _, _, _, _, _, _]) rfl ?_
  refine z_putF F zC6 (f := 28) rfl (Nat.le_of_ble_eq_true rfl) q1508 rfl hin rfl (fun _ => rfl) (fun _ => rfl) (Nat.le_of_ble_eq_true rfl) dX6_init_106 ?_
  refine z_weq (w' := [_, zO _ [_, _, _, _, _, _, _, _, _, _, _, _, _, _, _, _, _, _, _, _, _, _, _, _, _, _, _, _, _, _, _, _, _, _, _, _, _, _, _, _, _, _, _, _, _, _, _, _, _, _, _, _, _, _, _, _, _, _, _, _, _, _, _, _, _, _, _, _, _, _, _, _, _, _, _], _, _, _, _, _, _, _, _, _, _, _, _]) rfl ?_
  refine z_aload_n F dX6_init_109 rfl ?_
  refine z_bipush F (nI 13) dX6_init_110 rfl ?_
  refine z_newaJ F 13 14 q893 (nI_pos (by omega)) (zcl_n (by omega)) (by omega) rfl (Nat.le_of_ble_eq_true rfl) ⟨trivial, rfl, trivial, trivial, trivial, trivial, trivial, trivial, trivial, trivial, trivial, trivial, trivial, trivial, trivial⟩ rfl rfl ⟨by omega, by omega⟩ dX6_init_112 ?_
  refine z_weq (w' := [_, _, _, _, _, _, _, _, _, _, _, _, _, _, _]) rfl ?_
  refine z_putF F zC6 (f := 29) rfl (Nat.le_of_ble_eq_true rfl) q1509 rfl hin rfl (fun _ => rfl) (fun _ => rfl) (Nat.le_of_ble_eq_true rfl) dX6_init_114 ?_
  refine z_weq (w' := [_, zO _ [_, _, _, _, _, _, _, _, _, _, _, _, _, _, _, _, _, _, _, _, _, _, _, _, _, _, _, _, _, _, _, _, _, _, _, _, _, _, _, _, _, _, _, _, _, _, _, _, _, _, _, _, _, _, _, _, _, _, _, _, _, _, _, _, _, _, _, _, _, _, _, _, _, _, _], _, _, _, _, _, _, _, _, _, _, _, _, _]) rfl ?_
  refine z_aload_n F dX6_init_117 rfl ?_
  refine z_sipush F (nI 144) dX6_init_118 rfl ?_
  refine z_newaJ F 144 15 q893 (nI_pos (by omega)) (zcl_n (by omega)) (by omega) rfl (Nat.le_of_ble_eq_true rfl) ⟨trivial, rfl, trivial, trivial, trivial, trivial, trivial, trivial, trivial, trivial, trivial, trivial, trivial, trivial, trivial, trivial⟩ rfl rfl ⟨by omega, by omega⟩ dX6_init_121 ?_
  refine z_weq (w' := [_, _, _, _, _, _, _, _, _, _, _, _, _, _, _, _]) rfl ?_
  refine z_putF F zC6 (f := 30) rfl (Nat.le_of_ble_eq_true rfl) q1510 rfl hin rfl (fun _ => rfl) (fun _ => rfl) (Nat.le_of_ble_eq_true rfl) dX6_init_123 ?_
  refine z_weq (w' := [_, zO _ [_, _, _, _, _, _, _, _, _, _, _, _, _, _, _, _, _, _, _, _, _, _, _, _, _, _, _, _, _, _, _, _, _, _, _, _, _, _, _, _, _, _, _, _, _, _, _, _, _, _, _, _, _, _, _, _, _, _, _, _, _, _, _, _, _, _, _, _, _, _, _, _, _, _, _], _, _, _, _, _, _, _, _, _, _, _, _, _, _]) rfl ?_
  refine z_aload_n F dX6_init_126 rfl ?_
  refine z_sipush F (nI 144) dX6_init_127 rfl ?_
  refine z_newaJ F 144 16 q893 (nI_pos (by omega)) (zcl_n (by omega)) (by omega) rfl (Nat.le_of_ble_eq_true rfl) ⟨trivial, rfl, trivial, trivial, trivial, trivial, trivial, trivial, trivial, trivial, trivial, trivial, trivial, trivial, trivial, trivial, trivial⟩ rfl rfl ⟨by omega, by omega⟩ dX6_init_130 ?_
  refine z_weq (w' := [_, _, _, _, _, _, _, _, _, _, _, _, _, _, _, _, _]) rfl ?_
  refine z_putF F zC6 (f := 31) rfl (Nat.le_of_ble_eq_true rfl) q1511 rfl hin rfl (fun _ => rfl) (fun _ => rfl) (Nat.le_of_ble_eq_true rfl) dX6_init_132 ?_
  refine z_weq (w' := [_, zO _ [_, _, _, _, _, _, _, _, _, _, _, _, _, _, _, _, _, _, _, _, _, _, _, _, _, _, _, _, _, _, _, _, _, _, _, _, _, _, _, _, _, _, _, _, _, _, _, _, _, _, _, _, _, _, _, _, _, _, _, _, _, _, _, _, _, _, _, _, _, _, _, _, _, _, _], _, _, _, _, _, _, _, _, _, _, _, _, _, _, _]) rfl ?_
  refine z_aload_n F dX6_init_135 rfl ?_
  refine z_bipush F (nI 24) dX6_init_136 rfl ?_
  refine z_newaJ F 24 17 q893 (nI_pos (by omega)) (zcl_n (by omega)) (by omega) rfl (Nat.le_of_ble_eq_true rfl) ⟨trivial, rfl, trivial, trivial, trivial, trivial, trivial, trivial, trivial, trivial, trivial, trivial, trivial, trivial, trivial, trivial, trivial, trivial⟩ rfl rfl ⟨by omega, by omega⟩ dX6_init_138 ?_
  refine z_weq (w' := [_, _, _, _, _, _, _, _, _, _, _, _, _, _, _, _, _, _]) rfl ?_
  refine z_putF F zC6 (f := 32) rfl (Nat.le_of_ble_eq_true rfl) q1512 rfl hin rfl (fun _ => rfl) (fun _ => rfl) (Nat.le_of_ble_eq_true rfl) dX6_init_140 ?_
  refine z_weq (w' := [_, zO _ [_, _, _, _, _, _, _, _, _, _, _, _, _, _, _, _, _, _, _, _, _, _, _, _, _, _, _, _, _, _, _, _, _, _, _, _, _, _, _, _, _, _, _, _, _, _, _, _, _, _, _, _, _, _, _, _, _, _, _, _, _, _, _, _, _, _, _, _, _, _, _, _, _, _, _], _, _, _, _, _, _, _, _, _, _, _, _, _, _, _, _]) rfl ?_
  refine z_aload_n F dX6_init_143 rfl ?_
  refine z_bipush F (nI 24) dX6_init_144 rfl ?_
  refine z_newaJ F 24 18 q893 (nI_pos (by omega)) (zcl_n (by omega)) (by omega) rfl (Nat.le_of_ble_eq_true rfl) ⟨trivial, rfl, trivial, trivial, trivial, trivial, trivial, trivial, trivial, trivial, trivial, trivial, trivial, trivial, trivial, trivial, trivial, trivial, trivial⟩ rfl rfl ⟨by omega, by omega⟩ dX6_init_146 ?_
  refine z_weq (w' := [_, _, _, _, _, _, _, _, _, _, _, _, _, _, _, _, _, _, _]) rfl ?_
  refine z_putF F zC6 (f := 33) rfl (Nat.le_of_ble_eq_true rfl) q1513 rfl hin rfl (fun _ => rfl) (fun _ => rfl) (Nat.le_of_ble_eq_true rfl) dX6_init_148 ?_
  refine z_weq (w' := [_, zO _ [_, _, _, _, _, _, _, _, _, _, _, _, _, _, _, _, _, _, _, _, _, _, _, _, _, _, _, _, _, _, _, _, _, _, _, _, _, _, _, _, _, _, _, _, _, _, _, _, _, _, _, _, _, _, _, _, _, _, _, _, _, _, _, _, _, _, _, _, _, _, _, _, _, _, _], _, _, _, _, _, _, _, _, _, _, _, _, _, _, _, _, _]) rfl ?_
  refine z_aload_n F dX6_init_151 rfl ?_
  refine z_sipush F (nI 11250) dX6_init_152 rfl ?_
  refine z_newaI F 11250 19 q174 (nI_pos (by omega)) (zcl_n (by omega)) (by omega) rfl (Nat.le_of_ble_eq_true rfl) ⟨trivial, rfl, trivial, trivial, trivial, trivial, trivial, trivial, trivial, trivial, trivial, trivial, trivial, trivial, trivial, trivial, trivial, trivial, trivial, trivial⟩ rfl rfl ⟨by omega, by omega⟩ dX6_init_155 ?_
  refine z_weq (w' := [_, _, _, _, _, _, _, _, _, _, _, _, _, _, _, _, _, _, _, _]) rfl ?_
  refine z_putF F zC6 (f := 35) rfl (Nat.le_of_ble_eq_true rfl) q1515 rfl hin rfl (fun _ => rfl) (fun _ => rfl) (Nat.le_of_ble_eq_true rfl) dX6_init_157 ?_
  refine z_weq (w' := [_, zO _ [_, _, _, _, _, _, _, _, _, _, _, _, _, _, _, _, _, _, _, _, _, _, _, _, _, _, _, _, _, _, _, _, _, _, _, _, _, _, _, _, _, _, _, _, _, _, _, _, _, _, _, _, _, _, _, _, _, _, _, _, _, _, _, _, _, _, _, _, _, _, _, _, _, _, _], _, _, _, _, _, _, _, _, _, _, _, _, _, _, _, _, _, _]) rfl ?_
  refine z_aload_n F dX6_init_160 rfl ?_
  refine z_bipush F (nI 24) dX6_init_161 rfl ?_
  refine z_newaI F 24 20 q174 (nI_pos (by omega)) (zcl_n (by omega)) (by omega) rfl (Nat.le_of_ble_eq_true rfl) ⟨trivial, rfl, trivial, trivial, trivial, trivial, trivial, trivial, trivial, trivial, trivial, trivial, trivial, trivial, trivial, trivial, trivial, trivial, trivial, trivial, trivial⟩ rfl rfl ⟨by omega, by omega⟩ dX6_init_163 ?_
  refine z_weq (w' := [_, _, _, _, _, _, _, _, _, _, _, _, _, _, _, _, _, _, _, _, _]) rfl ?_
  refine z_putF F zC6 (f := 36) rfl (Nat.le_of_ble_eq_true rfl) q1516 rfl hin rfl (fun _ => rfl) (fun _ => rfl) (Nat.le_of_ble_eq_true rfl) dX6_init_165 ?_
  refine z_weq (w' := [_, zO _ [_, _, _, _, _, _, _, _, _, _, _, _, _, _, _, _, _, _, _, _, _, _, _, _, _, _, _, _, _, _, _, _, _, _, _, _, _, _, _, _, _, _, _, _, _, _, _, _, _, _, _, _, _, _, _, _, _, _, _, _, _, _, _, _, _, _, _, _, _, _, _, _, _, _, _], _, _, _, _, _, _, _, _, _, _, _, _, _, _, _, _, _, _, _]) rfl ?_
  refine z_aload_n F dX6_init_168 rfl ?_
  refine z_bipush F (nI 25) dX6_init_169 rfl ?_
  refine z_newaI F 25 21 q174 (nI_pos (by omega)) (zcl_n (by omega)) (by omega) rfl (Nat.le_of_ble_eq_true rfl) ⟨trivial, rfl, trivial, trivial, trivial, trivial, trivial, trivial, trivial, trivial, trivial, trivial, trivial, trivial, trivial, trivial, trivial, trivial, trivial, trivial, trivial, trivial⟩ rfl rfl ⟨by omega, by omega⟩ dX6_init_171 ?_
  refine z_weq (w' := [_, _, _, _, _, _, _, _, _, _, _, _, _, _, _, _, _, _, _, _, _, _]) rfl ?_
  refine z_putF F zC6 (f := 37) rfl (Nat.le_of_ble_eq_true rfl) q1517 rfl hin rfl (fun _ => rfl) (fun _ => rfl) (Nat.le_of_ble_eq_true rfl) dX6_init_173 ?_
  refine z_weq (w' := [_, zO _ [_, _, _, _, _, _, _, _, _, _, _, _, _, _, _, _, _, _, _, _, _, _, _, _, _, _, _, _, _, _, _, _, _, _, _, _, _, _, _, _, _, _, _, _, _, _, _, _, _, _, _, _, _, _, _, _, _, _, _, _, _, _, _, _, _, _, _, _, _, _, _, _, _, _, _], _, _, _, _, _, _, _, _, _, _, _, _, _, _, _, _, _, _, _, _]) rfl ?_
  refine z_aload_n F dX6_init_176 rfl ?_
  refine z_sipush F (nI 576) dX6_init_177 rfl ?_
  refine z_newaI F 576 22 q174 (nI_pos (by omega)) (zcl_n (by omega)) (by omega) rfl (Nat.le_of_ble_eq_true rfl) ⟨trivial, rfl, trivial, trivial, trivial, trivial, trivial, trivial, trivial, trivial, trivial, trivial, trivial, trivial, trivial, trivial, trivial, trivial, trivial, trivial, trivial, trivial, trivial⟩ rfl rfl ⟨by omega, by omega⟩ dX6_init_180 ?_
  refine z_weq (w' := [_, _, _, _, _, _, _, _, _, _, _, _, _, _, _, _, _, _, _, _, _, _, _]) rfl ?_
  refine z_putF F zC6 (f := 43) rfl (Nat.le_of_ble_eq_true rfl) q1523 rfl hin rfl (fun _ => rfl) (fun _ => rfl) (Nat.le_of_ble_eq_true rfl) dX6_init_182 ?_
  refine z_weq (w' := [_, zO _ [_, _, _, _, _, _, _, _, _, _, _, _, _, _, _, _, _, _, _, _, _, _, _, _, _, _, _, _, _, _, _, _, _, _, _, _, _, _, _, _, _, _, _, _, _, _, _, _, _, _, _, _, _, _, _, _, _, _, _, _, _, _, _, _, _, _, _, _, _, _, _, _, _, _, _], _, _, _, _, _, _, _, _, _, _, _, _, _, _, _, _, _, _, _, _, _]) rfl ?_
  refine z_aload_n F dX6_init_185 rfl ?_
  refine z_bipush F (nI 24) dX6_init_186 rfl ?_
  refine z_newaI F 24 23 q174 (nI_pos (by omega)) (zcl_n (by omega)) (by omega) rfl (Nat.le_of_ble_eq_true rfl) ⟨trivial, rfl, trivial, trivial, trivial, trivial, trivial, trivial, trivial, trivial, trivial, trivial, trivial, trivial, trivial, trivial, trivial, trivial, trivial, trivial, trivial, trivial, trivial, trivial⟩ rfl rfl ⟨by omega, by omega⟩ dX6_init_188 ?_
  refine z_weq (w' := [_, _, _, _, _, _, _, _, _, _, _, _, _, _, _, _, _, _, _, _, _, _, _, _]) rfl ?_
  refine z_putF F zC6 (f := 44) rfl (Nat.le_of_ble_eq_true rfl) q1524 rfl hin rfl (fun _ => rfl) (fun _ => rfl) (Nat.le_of_ble_eq_true rfl) dX6_init_190 ?_
  refine z_weq (w' := [_, zO _ [_, _, _, _, _, _, _, _, _, _, _, _, _, _, _, _, _, _, _, _, _, _, _, _, _, _, _, _, _, _, _, _, _, _, _, _, _, _, _, _, _, _, _, _, _, _, _, _, _, _, _, _, _, _, _, _, _, _, _, _, _, _, _, _, _, _, _, _, _, _, _, _, _, _, _], _, _, _, _, _, _, _, _, _, _, _, _, _, _, _, _, _, _, _, _, _, _]) rfl ?_
  refine z_aload_n F dX6_init_193 rfl ?_
  refine z_ldc F dX6_init_194 q1479 ?_
  refine z_ieq ((rfl : _ = nI 32768)) ?_
  refine z_newaZ F 32768 24 q264 (nI_pos (by omega)) (zcl_n (by omega)) (by omega) rfl (Nat.le_of_ble_eq_true rfl) ⟨trivial, rfl, trivial, trivial, trivial, trivial, trivial, trivial, trivial, trivial, trivial, trivial, trivial, trivial, trivial, trivial, trivial, trivial, trivial, trivial, trivial, trivial, trivial, trivial, trivial⟩ rfl rfl ⟨by omega, by omega⟩ dX6_init_196 ?_
  refine z_weq (w' := [_, _, _, _, _, _, _, _, _, _, _, _, _, _, _, _, _, _, _, _, _, _, _, _, _]) rfl ?_
  refine z_putF F zC6 (f := 50) rfl (Nat.le_of_ble_eq_true rfl) q1530 rfl hin rfl (fun _ => rfl) (fun _ => rfl) (Nat.le_of_ble_eq_true rfl) dX6_init_198 ?_
  refine z_weq (w' := [_, zO _ [_, _, _, _, _, _, _, _, _, _, _, _, _, _, _, _, _, _, _, _, _, _, _, _, _, _, _, _, _, _, _, _, _, _, _, _, _, _, _, _, _, _, _, _, _, _, _, _, _, _, _, _, _, _, _, _, _, _, _, _, _, _, _, _, _, _, _, _, _, _, _, _, _, _, _], _, _, _, _, _, _, _, _, _, _, _, _, _, _, _, _, _, _, _, _, _, _, _]) rfl ?_
  refine z_aload_n F dX6_init_201 rfl ?_
  refine z_ldc F dX6_init_202 q1479 ?_
  refine z_ieq ((rfl : _ = nI 32768)) ?_
  refine z_newaZ F 32768 25 q264 (nI_pos (by omega)) (zcl_n (by omega)) (by omega) rfl (Nat.le_of_ble_eq_true rfl) ⟨trivial, rfl, trivial, trivial, trivial, trivial, trivial, trivial, trivial, trivial, trivial, trivial, trivial, trivial, trivial, trivial, trivial, trivial, trivial, trivial, trivial, trivial, trivial, trivial, trivial, trivial⟩ rfl rfl ⟨by omega, by omega⟩ dX6_init_204 ?_
  refine z_weq (w' := [_, _, _, _, _, _, _, _, _, _, _, _, _, _, _, _, _, _, _, _, _, _, _, _, _, _]) rfl ?_
  refine z_putF F zC6 (f := 51) rfl (Nat.le_of_ble_eq_true rfl) q1531 rfl hin rfl (fun _ => rfl) (fun _ => rfl) (Nat.le_of_ble_eq_true rfl) dX6_init_206 ?_
  refine z_weq (w' := [_, zO _ [_, _, _, _, _, _, _, _, _, _, _, _, _, _, _, _, _, _, _, _, _, _, _, _, _, _, _, _, _, _, _, _, _, _, _, _, _, _, _, _, _, _, _, _, _, _, _, _, _, _, _, _, _, _, _, _, _, _, _, _, _, _, _, _, _, _, _, _, _, _, _, _, _, _, _], _, _, _, _, _, _, _, _, _, _, _, _, _, _, _, _, _, _, _, _, _, _, _, _]) rfl ?_
  refine z_aload_n F dX6_init_209 rfl ?_
  refine z_bipush F (nI 36) dX6_init_210 rfl ?_
  refine z_newaI F 36 26 q174 (nI_pos (by omega)) (zcl_n (by omega)) (by omega) rfl (Nat.le_of_ble_eq_true rfl) ⟨trivial, rfl, trivial, trivial, trivial, trivial, trivial, trivial, trivial, trivial, trivial, trivial, trivial, trivial, trivial, trivial, trivial, trivial, trivial, trivial, trivial, trivial, trivial, trivial, trivial, trivial, trivial⟩ rfl rfl ⟨by omega, by omega⟩ dX6_init_212 ?_
  refine z_weq (w' := [_, _, _, _, _, _, _, _, _, _, _, _, _, _, _, _, _, _, _, _, _, _, _, _, _, _, _]) rfl ?_
  refine z_putF F zC6 (f := 52) rfl (Nat.le_of_ble_eq_true rfl) q1532 rfl hin rfl (fun _ => rfl) (fun _ => rfl) (Nat.le_of_ble_eq_true rfl) dX6_init_214 ?_
  refine z_weq (w' := [_, zO _ [_, _, _, _, _, _, _, _, _, _, _, _, _, _, _, _, _, _, _, _, _, _, _, _, _, _, _, _, _, _, _, _, _, _, _, _, _, _, _, _, _, _, _, _, _, _, _, _, _, _, _, _, _, _, _, _, _, _, _, _, _, _, _, _, _, _, _, _, _, _, _, _, _, _, _], _, _, _, _, _, _, _, _, _, _, _, _, _, _, _, _, _, _, _, _, _, _, _, _, _]) rfl ?_
  refine z_aload_n F dX6_init_217 rfl ?_
  refine z_bipush F (nI 6) dX6_init_218 rfl ?_
  refine z_newaI F 6 27 q174 (nI_pos (by omega)) (zcl_n (by omega)) (by omega) rfl (Nat.le_of_ble_eq_true rfl) ⟨trivial, rfl, trivial, trivial, trivial, trivial, trivial, trivial, trivial, trivial, trivial, trivial, trivial, trivial, trivial, trivial, trivial, trivial, trivial, trivial, trivial, trivial, trivial, trivial, trivial, trivial, trivial, trivial⟩ rfl rfl ⟨by omega, by omega⟩ dX6_init_220 ?_
  refine z_weq (w' := [_, _, _, _, _, _, _, _, _, _, _, _, _, _, _, _, _, _, _, _, _, _, _, _, _, _, _, _]) rfl ?_
  refine z_putF F zC6 (f := 53) rfl (Nat.le_of_ble_eq_true rfl) q1533 rfl hin rfl (fun _ => rfl) (fun _ => rfl) (Nat.le_of_ble_eq_true rfl) dX6_init_222 ?_
  refine z_weq (w' := [_, zO _ [_, _, _, _, _, _, _, _, _, _, _, _, _, _, _, _, _, _, _, _, _, _, _, _, _, _, _, _, _, _, _, _, _, _, _, _, _, _, _, _, _, _, _, _, _, _, _, _, _, _, _, _, _, _, _, _, _, _, _, _, _, _, _, _, _, _, _, _, _, _, _, _, _, _, _], _, _, _, _, _, _, _, _, _, _, _, _, _, _, _, _, _, _, _, _, _, _, _, _, _, _]) rfl ?_
  refine z_aload_n F dX6_init_225 rfl ?_
  refine z_sipush F (nI 504) dX6_init_226 rfl ?_
  refine z_newaI F 504 28 q174 (nI_pos (by omega)) (zcl_n (by omega)) (by omega) rfl (Nat.le_of_ble_eq_true rfl) ⟨trivial, rfl, trivial, trivial, trivial, trivial, trivial, trivial, trivial, trivial, trivial, trivial, trivial, trivial, trivial, trivial, trivial, trivial, trivial, trivial, trivial, trivial, trivial, trivial, trivial, trivial, trivial, trivial, trivial⟩ rfl rfl ⟨by omega, by omega⟩ dX6_init_229 ?_
  refine z_weq (w' := [_, _, _, _, _, _, _, _, _, _, _, _, _, _, _, _, _, _, _, _, _, _, _, _, _, _, _, _, _]) rfl ?_
  refine z_putF F zC6 (f := 54) rfl (Nat.le_of_ble_eq_true rfl) q1534 rfl hin rfl (fun _ => rfl) (fun _ => rfl) (Nat.le_of_ble_eq_true rfl) dX6_init_231 ?_
  refine z_weq (w' := [_, zO _ [_, _, _, _, _, _, _, _, _, _, _, _, _, _, _, _, _, _, _, _, _, _, _, _, _, _, _, _, _, _, _, _, _, _, _, _, _, _, _, _, _, _, _, _, _, _, _, _, _, _, _, _, _, _, _, _, _, _, _, _, _, _, _, _, _, _, _, _, _, _, _, _, _, _, _], _, _, _, _, _, _, _, _, _, _, _, _, _, _, _, _, _, _, _, _, _, _, _, _, _, _, _]) rfl ?_
  refine z_aload_n F dX6_init_234 rfl ?_
  refine z_sipush F (nI 504) dX6_init_235 rfl ?_
  refine z_newaI F 504 29 q174 (nI_pos (by omega)) (zcl_n (by omega)) (by omega) rfl (Nat.le_of_ble_eq_true rfl) ⟨trivial, rfl, trivial, trivial, trivial, trivial, trivial, trivial, trivial, trivial, trivial, trivial, trivial, trivial, trivial, trivial, trivial, trivial, trivial, trivial, trivial, trivial, trivial, trivial, trivial, trivial, trivial, trivial, trivial, trivial⟩ rfl rfl ⟨by omega, by omega⟩ dX6_init_238 ?_
  refine z_weq (w' := [_, _, _, _, _, _, _, _, _, _, _, _, _, _, _, _, _, _, _, _, _, _, _, _, _, _, _, _, _, _]) rfl ?_
  refine z_putF F zC6 (f := 55) rfl (Nat.le_of_ble_eq_true rfl) q1535 rfl hin rfl (fun _ => rfl) (fun _ => rfl) (Nat.le_of_ble_eq_true rfl) dX6_init_240 ?_
  refine z_weq (w' := [_, zO _ [_, _, _, _, _, _, _, _, _, _, _, _, _, _, _, _, _, _, _, _, _, _, _, _, _, _, _, _, _, _, _, _, _, _, _, _, _, _, _, _, _, _, _, _, _, _, _, _, _, _, _, _, _, _, _, _, _, _, _, _, _, _, _, _, _, _, _, _, _, _, _, _, _, _, _], _, _, _, _, _, _, _, _, _, _, _, _, _, _, _, _, _, _, _, _, _, _, _, _, _, _, _, _]) rfl ?_
  refine z_aload_n F dX6_init_243 rfl ?_
  refine z_sipush F (nI 504) dX6_init_244 rfl ?_
  refine z_newaI F 504 30 q174 (nI_pos (by omega)) (zcl_n (by omega)) (by omega) rfl (Nat.le_of_ble_eq_true rfl) ⟨trivial, rfl, trivial, trivial, trivial, trivial, trivial, trivial, trivial, trivial, trivial, trivial, trivial, trivial, trivial, trivial, trivial, trivial, trivial, trivial, trivial, trivial, trivial, trivial, trivial, trivial, trivial, trivial, trivial, trivial, trivial⟩ rfl rfl ⟨by omega, by omega⟩ dX6_init_247 ?_
  refine z_weq (w' := [_, _, _, _, _, _, _, _, _, _, _, _, _, _, _, _, _, _, _, _, _, _, _, _, _, _, _, _, _, _, _]) rfl ?_
  refine z_putF F zC6 (f := 56) rfl (Nat.le_of_ble_eq_true rfl) q1536 rfl hin rfl (fun _ => rfl) (fun _ => rfl) (Nat.le_of_ble_eq_true rfl) dX6_init_249 ?_
  refine z_weq (w' := [_, zO _ [_, _, _, _, _, _, _, _, _, _, _, _, _, _, _, _, _, _, _, _, _, _, _, _, _, _, _, _, _, _, _, _, _, _, _, _, _, _, _, _, _, _, _, _, _, _, _, _, _, _, _, _, _, _, _, _, _, _, _, _, _, _, _, _, _, _, _, _, _, _, _, _, _, _, _], _, _, _, _, _, _, _, _, _, _, _, _, _, _, _, _, _, _, _, _, _, _, _, _, _, _, _, _, _]) rfl ?_
  refine z_aload_n F dX6_init_252 rfl ?_
  refine z_sipush F (nI 504) dX6_init_253 rfl ?_
  refine z_newaI F 504 31 q174 (nI_pos (by omega)) (zcl_n (by omega)) (by omega) rfl (Nat.le_of_ble_eq_true rfl) ⟨trivial, rfl, trivial, trivial, trivial, trivial, trivial, trivial, trivial, trivial, trivial, trivial, trivial, trivial, trivial, trivial, trivial, trivial, trivial, trivial, trivial, trivial, trivial, trivial, trivial, trivial, trivial, trivial, trivial, trivial, trivial, trivial⟩ rfl rfl ⟨by omega, by omega⟩ dX6_init_256 ?_
  refine z_weq (w' := [_, _, _, _, _, _, _, _, _, _, _, _, _, _, _, _, _, _, _, _, _, _, _, _, _, _, _, _, _, _, _, _]) rfl ?_
  refine z_putF F zC6 (f := 57) rfl (Nat.le_of_ble_eq_true rfl) q1537 rfl hin rfl (fun _ => rfl) (fun _ => rfl) (Nat.le_of_ble_eq_true rfl) dX6_init_258 ?_
  refine z_weq (w' := [_, zO _ [_, _, _, _, _, _, _, _, _, _, _, _, _, _, _, _, _, _, _, _, _, _, _, _, _, _, _, _, _, _, _, _, _, _, _, _, _, _, _, _, _, _, _, _, _, _, _, _, _, _, _, _, _, _, _, _, _, _, _, _, _, _, _, _, _, _, _, _, _, _, _, _, _, _, _], _, _, _, _, _, _, _, _, _, _, _, _, _, _, _, _, _, _, _, _, _, _, _, _, _, _, _, _, _, _]) rfl ?_
  refine z_aload_n F dX6_init_261 rfl ?_
  refine z_iconst F (nI 2) dX6_init_262 rfl ?_
  refine z_newaI F 2 32 q174 (nI_pos (by omega)) (zcl_n (by omega)) (by omega) rfl (Nat.le_of_ble_eq_true rfl) ⟨trivial, rfl, trivial, trivial, trivial, trivial, trivial, trivial, trivial, trivial, trivial, trivial, trivial, trivial, trivial, trivial, trivial, trivial, trivial, trivial, trivial, trivial, trivial, trivial, trivial, trivial, trivial, trivial, trivial, trivial, trivial, trivial, trivial⟩ rfl rfl ⟨by omega, by omega⟩ dX6_init_263 ?_
  refine z_weq (w' := [_, _, _, _, _, _, _, _, _, _, _, _, _, _, _, _, _, _, _, _, _, _, _, _, _, _, _, _, _, _, _, _, _]) rfl ?_
  refine z_putF F zC6 (f := 59) rfl (Nat.le_of_ble_eq_true rfl) q1539 rfl hin rfl (fun _ => rfl) (fun _ => rfl) (Nat.le_of_ble_eq_true rfl) dX6_init_265 ?_
  refine z_weq (w' := [_, zO _ [_, _, _, _, _, _, _, _, _, _, _, _, _, _, _, _, _, _, _, _, _, _, _, _, _, _, _, _, _, _, _, _, _, _, _, _, _, _, _, _, _, _, _, _, _, _, _, _, _, _, _, _, _, _, _, _, _, _, _, _, _, _, _, _, _, _, _, _, _, _, _, _, _, _, _], _, _, _, _, _, _, _, _, _, _, _, _, _, _, _, _, _, _, _, _, _, _, _, _, _, _, _, _, _, _, _]) rfl ?_
  refine z_aload_n F dX6_init_268 rfl ?_
  refine z_bipush F (nI 24) dX6_init_269 rfl ?_
  refine z_newaI F 24 33 q174 (nI_pos (by omega)) (zcl_n (by omega)) (by omega) rfl (Nat.le_of_ble_eq_true rfl) ⟨trivial, rfl, trivial, trivial, trivial, trivial, trivial, trivial, trivial, trivial, trivial, trivial, trivial, trivial, trivial, trivial, trivial, trivial, trivial, trivial, trivial, trivial, trivial, trivial, trivial, trivial, trivial, trivial, trivial, trivial, trivial, trivial, trivial, trivial⟩ rfl rfl ⟨by omega, by omega⟩ dX6_init_271 ?_
  refine z_weq (w' := [_, _, _, _, _, _, _, _, _, _, _, _, _, _, _, _, _, _, _, _, _, _, _, _, _, _, _, _, _, _, _, _, _, _]) rfl ?_
  refine z_putF F zC6 (f := 62) rfl (Nat.le_of_ble_eq_true rfl) q1542 rfl hin rfl (fun _ => rfl) (fun _ => rfl) (Nat.le_of_ble_eq_true rfl) dX6_init_273 ?_
  refine z_weq (w' := [_, zO _ [_, _, _, _, _, _, _, _, _, _, _, _, _, _, _, _, _, _, _, _, _, _, _, _, _, _, _, _, _, _, _, _, _, _, _, _, _, _, _, _, _, _, _, _, _, _, _, _, _, _, _, _, _, _, _, _, _, _, _, _, _, _, _, _, _, _, _, _, _, _, _, _, _, _, _], _, _, _, _, _, _, _, _, _, _, _, _, _, _, _, _, _, _, _, _, _, _, _, _, _, _, _, _, _, _, _, _]) rfl ?_
  refine z_aload_n F dX6_init_276 rfl ?_
  refine z_bipush F (nI 24) dX6_init_277 rfl ?_
  refine z_newaI F 24 34 q174 (nI_pos (by omega)) (zcl_n (by omega)) (by omega) rfl (Nat.le_of_ble_eq_true rfl) ⟨trivial, rfl, trivial, trivial, trivial, trivial, trivial, trivial, trivial, trivial, trivial, trivial, trivial, trivial, trivial, trivial, trivial, trivial, trivial, trivial, trivial, trivial, trivial, trivial, trivial, trivial, trivial, trivial, trivial, trivial, trivial, trivial, trivial, trivial, trivial⟩ rfl rfl ⟨by omega, by omega⟩ dX6_init_279 ?_
  refine z_weq (w' := [_, _, _, _, _, _, _, _, _, _, _, _, _, _, _, _, _, _, _, _, _, _, _, _, _, _, _, _, _, _, _, _, _, _, _]) rfl ?_
  refine z_putF F zC6 (f := 63) rfl (Nat.le_of_ble_eq_true rfl) q1543 rfl hin rfl (fun _ => rfl) (fun _ => rfl) (Nat.le_of_ble_eq_true rfl) dX6_init_281 ?_
  refine z_weq (w' := [_, zO _ [_, _, _, _, _, _, _, _, _, _, _, _, _, _, _, _, _, _, _, _, _, _, _, _, _, _, _, _, _, _, _, _, _, _, _, _, _, _, _, _, _, _, _, _, _, _, _, _, _, _, _, _, _, _, _, _, _, _, _, _, _, _, _, _, _, _, _, _, _, _, _, _, _, _, _], _, _, _, _, _, _, _, _, _, _, _, _, _, _, _, _, _, _, _, _, _, _, _, _, _, _, _, _, _, _, _, _, _]) rfl ?_
  refine z_aload_n F dX6_init_284 rfl ?_
  refine z_bipush F (nI 24) dX6_init_285 rfl ?_
  refine z_newaI F 24 35 q174 (nI_pos (by omega)) (zcl_n (by omega)) (by omega) rfl (Nat.le_of_ble_eq_true rfl) ⟨trivial, rfl, trivial, trivial, trivial, trivial, trivial, trivial, trivial, trivial, trivial, trivial, trivial, trivial, trivial, trivial, trivial, trivial, trivial, trivial, trivial, trivial, trivial, trivial, trivial, trivial, trivial, trivial, trivial, trivial, trivial, trivial, trivial, trivial, trivial, trivial⟩ rfl rfl ⟨by omega, by omega⟩ dX6_init_287 ?_
  refine z_weq (w' := [_, _, _, _, _, _, _, _, _, _, _, _, _, _, _, _, _, _, _, _, _, _, _, _, _, _, _, _, _, _, _, _, _, _, _, _]) rfl ?_
  refine z_putF F zC6 (f := 64) rfl (Nat.le_of_ble_eq_true rfl) q1544 rfl hin rfl (fun _ => rfl) (fun _ => rfl) (Nat.le_of_ble_eq_true rfl) dX6_init_289 ?_
  refine z_weq (w' := [_, zO _ [_, _, _, _, _, _, _, _, _, _, _, _, _, _, _, _, _, _, _, _, _, _, _, _, _, _, _, _, _, _, _, _, _, _, _, _, _, _, _, _, _, _, _, _, _, _, _, _, _, _, _, _, _, _, _, _, _, _, _, _, _, _, _, _, _, _, _, _, _, _, _, _, _, _, _], _, _, _, _, _, _, _, _, _, _, _, _, _, _, _, _, _, _, _, _, _, _, _, _, _, _, _, _, _, _, _, _, _, _]) rfl ?_
  refine z_aload_n F dX6_init_292 rfl ?_
  refine z_sipush F (nI 576) dX6_init_293 rfl ?_
  refine z_newaI F 576 36 q174 (nI_pos (by omega)) (zcl_n (by omega)) (by omega) rfl (Nat.le_of_ble_eq_true rfl) ⟨trivial, rfl, trivial, trivial, trivial, trivial, trivial, trivial, trivial, trivial, trivial, trivial, trivial, trivial, trivial, trivial, trivial, trivial, trivial, trivial, trivial, trivial, trivial, trivial, trivial, trivial, trivial, trivial, trivial, trivial, trivial, trivial, trivial, trivial, trivial, trivial, trivial⟩ rfl rfl ⟨by omega, by omega⟩ dX6_init_296 ?_
  refine z_weq (w' := [_, _, _, _, _, _, _, _, _, _, _, _, _, _, _, _, _, _, _, _, _, _, _, _, _, _, _, _, _, _, _, _, _, _, _, _, _]) rfl ?_
  refine z_putF F zC6 (f := 65) rfl (Nat.le_of_ble_eq_true rfl) q1545 rfl hin rfl (fun _ => rfl) (fun _ => rfl) (Nat.le_of_ble_eq_true rfl) dX6_init_298 ?_
  refine z_weq (w' := [_, zO _ [_, _, _, _, _, _, _, _, _, _, _, _, _, _, _, _, _, _, _, _, _, _, _, _, _, _, _, _, _, _, _, _, _, _, _, _, _, _, _, _, _, _, _, _, _, _, _, _, _, _, _, _, _, _, _, _, _, _, _, _, _, _, _, _, _, _, _, _, _, _, _, _, _, _, _], _, _, _, _, _, _, _, _, _, _, _, _, _, _, _, _, _, _, _, _, _, _, _, _, _, _, _, _, _, _, _, _, _, _, _]) rfl ?_
  refine z_aload_n F dX6_init_301 rfl ?_
  refine z_sipush F (nI 576) dX6_init_302 rfl ?_
  refine z_newaZ F 576 37 q264 (nI_pos (by omega)) (zcl_n (by omega)) (by omega) rfl (Nat.le_of_ble_eq_true rfl) ⟨trivial, rfl, trivial, trivial, trivial, trivial, trivial, trivial, trivial, trivial, trivial, trivial, trivial, trivial, trivial, trivial, trivial, trivial, trivial, trivial, trivial, trivial, trivial, trivial, trivial, trivial, trivial, trivial, trivial, trivial, trivial, trivial, trivial, trivial, trivial, trivial, trivial, trivial⟩ rfl rfl ⟨by omega, by omega⟩ dX6_init_305 ?_
  refine z_weq (w' := [_, _, _, _, _, _, _, _, _, _, _, _, _, _, _, _, _, _, _, _, _, _, _, _, _, _, _, _, _, _, _, _, _, _, _, _, _, _]) rfl ?_
  refine z_putF F zC6 (f := 66) rfl (Nat.le_of_ble_eq_true rfl) q1546 rfl hin rfl (fun _ => rfl) (fun _ => rfl) (Nat.le_of_ble_eq_true rfl) dX6_init_307 ?_
  refine z_weq (w' := [_, zO _ [_, _, _, _, _, _, _, _, _, _, _, _, _, _, _, _, _, _, _, _, _, _, _, _, _, _, _, _, _, _, _, _, _, _, _, _, _, _, _, _, _, _, _, _, _, _, _, _, _, _, _, _, _, _, _, _, _, _, _, _, _, _, _, _, _, _, _, _, _, _, _, _, _, _, _], _, _, _, _, _, _, _, _, _, _, _, _, _, _, _, _, _, _, _, _, _, _, _, _, _, _, _, _, _, _, _, _, _, _, _, _]) rfl ?_
  refine z_aload_n F dX6_init_310 rfl ?_
  refine z_sipush F (nI 576) dX6_init_311 rfl ?_
  refine z_newaI F 576 38 q174 (nI_pos (by omega)) (zcl_n (by omega)) (by omega) rfl (Nat.le_of_ble_eq_true rfl) ⟨trivial, rfl, trivial, trivial, trivial, trivial, trivial, trivial, trivial, trivial, trivial, trivial, trivial, trivial, trivial, trivial, trivial, trivial, trivial, trivial, trivial, trivial, trivial, trivial, trivial, trivial, trivial, trivial, trivial, trivial, trivial, trivial, trivial, trivial, trivial, trivial, trivial, trivial, trivial⟩ rfl rfl ⟨by omega, by omega⟩ dX6_init_314 ?_
  refine z_weq (w' := [_, _, _, _, _, _, _, _, _, _, _, _, _, _, _, _, _, _, _, _, _, _, _, _, _, _, _, _, _, _, _, _, _, _, _, _, _, _, _]) rfl ?_
  refine z_putF F zC6 (f := 67) rfl (Nat.le_of_ble_eq_true rfl) q1547 rfl hin rfl (fun _ => rfl) (fun _ => rfl) (Nat.le_of_ble_eq_true rfl) dX6_init_316 ?_
  refine z_weq (w' := [_, zO _ [_, _, _, _, _, _, _, _, _, _, _, _, _, _, _, _, _, _, _, _, _, _, _, _, _, _, _, _, _, _, _, _, _, _, _, _, _, _, _, _, _, _, _, _, _, _, _, _, _, _, _, _, _, _, _, _, _, _, _, _, _, _, _, _, _, _, _, _, _, _, _, _, _, _, _], _, _, _, _, _, _, _, _, _, _, _, _, _, _, _, _, _, _, _, _, _, _, _, _, _, _, _, _, _, _, _, _, _, _, _, _, _]) rfl ?_
  refine z_aload_n F dX6_init_319 rfl ?_
  refine z_bipush F (nI 24) dX6_init_320 rfl ?_
  refine z_newaI F 24 39 q174 (nI_pos (by omega)) (zcl_n (by omega)) (by omega) rfl (Nat.le_of_ble_eq_true rfl) ⟨trivial, rfl, trivial, trivial, trivial, trivial, trivial, trivial, trivial, trivial, trivial, trivial, trivial, trivial, trivial, trivial, trivial, trivial, trivial, trivial, trivial, trivial, trivial, trivial, trivial, trivial, trivial, trivial, trivial, trivial, trivial, trivial, trivial, trivial, trivial, trivial, trivial, trivial, trivial, trivial⟩ rfl rfl ⟨by omega, by omega⟩ dX6_init_322 ?_
  refine z_weq (w' := [_, _, _, _, _, _, _, _, _, _, _, _, _, _, _, _, _, _, _, _, _, _, _, _, _, _, _, _, _, _, _, _, _, _, _, _, _, _, _, _]) rfl ?_
  refine z_putF F zC6 (f := 68) rfl (Nat.le_of_ble_eq_true rfl) q1548 rfl hin rfl (fun _ => rfl) (fun _ => rfl) (Nat.le_of_ble_eq_true rfl) dX6_init_324 ?_
  refine z_weq (w' := [_, zO _ [_, _, _, _, _, _, _, _, _, _, _, _, _, _, _, _, _, _, _, _, _, _, _, _, _, _, _, _, _, _, _, _, _, _, _, _, _, _, _, _, _, _, _, _, _, _, _, _, _, _, _, _, _, _, _, _, _, _, _, _, _, _, _, _, _, _, _, _, _, _, _, _, _, _, _], _, _, _, _, _, _, _, _, _, _, _, _, _, _, _, _, _, _, _, _, _, _, _, _, _, _, _, _, _, _, _, _, _, _, _, _, _, _]) rfl ?_
  refine z_aload_n F dX6_init_327 rfl ?_
  refine z_bipush F (nI 24) dX6_init_328 rfl ?_
  refine z_newaI F 24 40 q174 (nI_pos (by omega)) (zcl_n (by omega)) (by omega) rfl (Nat.le_of_ble_eq_true rfl) ⟨trivial, rfl, trivial, trivial, trivial, trivial, trivial, trivial, trivial, trivial, trivial, trivial, trivial, trivial, trivial, trivial, trivial, trivial, trivial, trivial, trivial, trivial, trivial, trivial, trivial, trivial, trivial, trivial, trivial, trivial, trivial, trivial, trivial, trivial, trivial, trivial, trivial, trivial, trivial, trivial, trivial⟩ rfl rfl ⟨by omega, by omega⟩ dX6_init_330 ?_
  refine z_weq (w' := [_, _, _, _, _, _, _, _, _, _, _, _, _, _, _, _, _, _, _, _, _, _, _, _, _, _, _, _, _, _, _, _, _, _, _, _, _, _, _, _, _]) rfl ?_
  refine z_putF F zC6 (f := 69) rfl (Nat.le_of_ble_eq_true rfl) q1549 rfl hin rfl (fun _ => rfl) (fun _ => rfl) (Nat.le_of_ble_eq_true rfl) dX6_init_332 ?_
  refine z_weq (w' := [_, zO _ [_, _, _, _, _, _, _, _, _, _, _, _, _, _, _, _, _, _, _, _, _, _, _, _, _, _, _, _, _, _, _, _, _, _, _, _, _, _, _, _, _, _, _, _, _, _, _, _, _, _, _, _, _, _, _, _, _, _, _, _, _, _, _, _, _, _, _, _, _, _, _, _, _, _, _], _, _, _, _, _, _, _, _, _, _, _, _, _, _, _, _, _, _, _, _, _, _, _, _, _, _, _, _, _, _, _, _, _, _, _, _, _, _, _]) rfl ?_
  refine z_aload_n F dX6_init_335 rfl ?_
  refine z_bipush F (nI 24) dX6_init_336 rfl ?_
  refine z_newaI F 24 41 q174 (nI_pos (by omega)) (zcl_n (by omega)) (by omega) rfl (Nat.le_of_ble_eq_true rfl) ⟨trivial, rfl, trivial, trivial, trivial, trivial, trivial, trivial, trivial, trivial, trivial, trivial, trivial, trivial, trivial, trivial, trivial, trivial, trivial, trivial, trivial, trivial, trivial, trivial, trivial, trivial, trivial, trivial, trivial, trivial, trivial, trivial, trivial, trivial, trivial, trivial, trivial, trivial, trivial, trivial, trivial, trivial⟩ rfl rfl ⟨by omega, by omega⟩ dX6_init_338 ?_
  refine z_weq (w' := [_, _, _, _, _, _, _, _, _, _, _, _, _, _, _, _, _, _, _, _, _, _, _, _, _, _, _, _, _, _, _, _, _, _, _, _, _, _, _, _, _, _]) rfl ?_
  refine z_putF F zC6 (f := 70) rfl (Nat.le_of_ble_eq_true rfl) q1550 rfl hin rfl (fun _ => rfl) (fun _ => rfl) (Nat.le_of_ble_eq_true rfl) dX6_init_340 ?_
  refine z_weq (w' := [_, zO _ [_, _, _, _, _, _, _, _, _, _, _, _, _, _, _, _, _, _, _, _, _, _, _, _, _, _, _, _, _, _, _, _, _, _, _, _, _, _, _, _, _, _, _, _, _, _, _, _, _, _, _, _, _, _, _, _, _, _, _, _, _, _, _, _, _, _, _, _, _, _, _, _, _, _, _], _, _, _, _, _, _, _, _, _, _, _, _, _, _, _, _, _, _, _, _, _, _, _, _, _, _, _, _, _, _, _, _, _, _, _, _, _, _, _, _]) rfl ?_
  refine z_aload_n F dX6_init_343 rfl ?_
  refine z_bipush F (nI 24) dX6_init_344 rfl ?_
  refine z_newaI F 24 42 q174 (nI_pos (by omega)) (zcl_n (by omega)) (by omega) rfl (Nat.le_of_ble_eq_true rfl) ⟨trivial, rfl, trivial, trivial, trivial, trivial, trivial, trivial, trivial, trivial, trivial, trivial, trivial, trivial, trivial, trivial, trivial, trivial, trivial, trivial, trivial, trivial, trivial, trivial, trivial, trivial, trivial, trivial, trivial, trivial, trivial, trivial, trivial, trivial, trivial, trivial, trivial, trivial, trivial, trivial, trivial, trivial, trivial⟩ rfl rfl ⟨by omega, by omega⟩ dX6_init_346 ?_
  refine z_weq (w' := [_, _, _, _, _, _, _, _, _, _, _, _, _, _, _, _, _, _, _, _, _, _, _, _, _, _, _, _, _, _, _, _, _, _, _, _, _, _, _, _, _, _, _]) rfl ?_
  refine z_putF F zC6 (f := 71) rfl (Nat.le_of_ble_eq_true rfl) q1551 rfl hin rfl (fun _ => rfl) (fun _ => rfl) (Nat.le_of_ble_eq_true rfl) dX6_init_348 ?_
  refine z_weq (w' := [_, zO _ [_, _, _, _, _, _, _, _, _, _, _, _, _, _, _, _, _, _, _, _, _, _, _, _, _, _, _, _, _, _, _, _, _, _, _, _, _, _, _, _, _, _, _, _, _, _, _, _, _, _, _, _, _, _, _, _, _, _, _, _, _, _, _, _, _, _, _, _, _, _, _, _, _, _, _], _, _, _, _, _, _, _, _, _, _, _, _, _, _, _, _, _, _, _, _, _, _, _, _, _, _, _, _, _, _, _, _, _, _, _, _, _, _, _, _, _]) rfl ?_
  refine z_aload_n F dX6_init_351 rfl ?_
  refine z_bipush F (nI 48) dX6_init_352 rfl ?_
  refine z_newaI F 48 43 q174 (nI_pos (by omega)) (zcl_n (by omega)) (by omega) rfl (Nat.le_of_ble_eq_true rfl) ⟨trivial, rfl, trivial, trivial, trivial, trivial, trivial, trivial, trivial, trivial, trivial, trivial, trivial, trivial, trivial, trivial, trivial, trivial, trivial, trivial, trivial, trivial, trivial, trivial, trivial, trivial, trivial, trivial, trivial, trivial, trivial, trivial, trivial, trivial, trivial, trivial, trivial, trivial, trivial, trivial, trivial, trivial, trivial, trivial⟩ rfl rfl ⟨by omega, by omega⟩ dX6_init_354 ?_
  refine z_weq (w' := [_, _, _, _, _, _, _, _, _, _, _, _, _, _, _, _, _, _, _, _, _, _, _, _, _, _, _, _, _, _, _, _, _, _, _, _, _, _, _, _, _, _, _, _]) rfl ?_
  refine z_putF F zC6 (f := 72) rfl (Nat.le_of_ble_eq_true rfl) q1552 rfl hin rfl (fun _ => rfl) (fun _ => rfl) (Nat.le_of_ble_eq_true rfl) dX6_init_356 ?_
  refine z_weq (w' := [_, zO _ [_, _, _, _, _, _, _, _, _, _, _, _, _, _, _, _, _, _, _, _, _, _, _, _, _, _, _, _, _, _, _, _, _, _, _, _, _, _, _, _, _, _, _, _, _, _, _, _, _, _, _, _, _, _, _, _, _, _, _, _, _, _, _, _, _, _, _, _, _, _, _, _, _, _, _], _, _, _, _, _, _, _, _, _, _, _, _, _, _, _, _, _, _, _, _, _, _, _, _, _, _, _, _, _, _, _, _, _, _, _, _, _, _, _, _, _, _]) rfl ?_
  refine z_aload_n F dX6_init_359 rfl ?_
  refine z_sipush F (nI 1024) dX6_init_360 rfl ?_
  refine z_newaZ F 1024 44 q264 (nI_pos (by omega)) (zcl_n (by omega)) (by omega) rfl (Nat.le_of_ble_eq_true rfl) ⟨trivial, rfl, trivial, trivial, trivial, trivial, trivial, trivial, trivial, trivial, trivial, trivial, trivial, trivial, trivial, trivial, trivial, trivial, trivial, trivial, trivial, trivial, trivial, trivial, trivial, trivial, trivial, trivial, trivial, trivial, trivial, trivial, trivial, trivial, trivial, trivial, trivial, trivial, trivial, trivial, trivial, trivial, trivial, trivial, trivial⟩ rfl rfl ⟨by omega, by omega⟩ dX6_init_363 ?_
  refine z_weq (w' := [_, _, _, _, _, _, _, _, _, _, _, _, _, _, _, _, _, _, _, _, _, _, _, _, _, _, _, _, _, _, _, _, _, _, _, _, _, _, _, _, _, _, _, _, _]) rfl ?_
  refine z_putF F zC6 (f := 73) rfl (Nat.le_of_ble_eq_true rfl) q1553 rfl hin rfl (fun _ => rfl) (fun _ => rfl) (Nat.le_of_ble_eq_true rfl) dX6_init_365 ?_
  refine z_weq (w' := [_, zO _ [_, _, _, _, _, _, _, _, _, _, _, _, _, _, _, _, _, _, _, _, _, _, _, _, _, _, _, _, _, _, _, _, _, _, _, _, _, _, _, _, _, _, _, _, _, _, _, _, _, _, _, _, _, _, _, _, _, _, _, _, _, _, _, _, _, _, _, _, _, _, _, _, _, _, _], _, _, _, _, _, _, _, _, _, _, _, _, _, _, _, _, _, _, _, _, _, _, _, _, _, _, _, _, _, _, _, _, _, _, _, _, _, _, _, _, _, _, _]) rfl ?_
  refine z_aload_n F dX6_init_368 rfl ?_
  refine z_sipush F (nI 1024) dX6_init_369 rfl ?_
  refine z_newaZ F 1024 45 q264 (nI_pos (by omega)) (zcl_n (by omega)) (by omega) rfl (Nat.le_of_ble_eq_true rfl) ⟨trivial, rfl, trivial, trivial, trivial, trivial, trivial, trivial, trivial, trivial, trivial, trivial, trivial, trivial, trivial, trivial, trivial, trivial, trivial, trivial, trivial, trivial, trivial, trivial, trivial, trivial, trivial, trivial, trivial, trivial, trivial, trivial, trivial, trivial, trivial, trivial, trivial, trivial, trivial, trivial, trivial, trivial, trivial, trivial, trivial, trivial⟩ rfl rfl ⟨by omega, by omega⟩ dX6_init_372 ?_
  refine z_weq (w' := [_, _, _, _, _, _, _, _, _, _, _, _, _, _, _, _, _, _, _, _, _, _, _, _, _, _, _, _, _, _, _, _, _, _, _, _, _, _, _, _, _, _, _, _, _, _]) rfl ?_
  refine z_putF F zC6 (f := 74) rfl (Nat.le_of_ble_eq_true rfl) q1554 rfl hin rfl (fun _ => rfl) (fun _ => rfl) (Nat.le_of_ble_eq_true rfl) dX6_init_374 ?_
  refine z_weq (w' := [_, zO _ [_, _, _, _, _, _, _, _, _, _, _, _, _, _, _, _, _, _, _, _, _, _, _, _, _, _, _, _, _, _, _, _, _, _, _, _, _, _, _, _, _, _, _, _, _, _, _, _, _, _, _, _, _, _, _, _, _, _, _, _, _, _, _, _, _, _, _, _, _, _, _, _, _, _, _], _, _, _, _, _, _, _, _, _, _, _, _, _, _, _, _, _, _, _, _, _, _, _, _, _, _, _, _, _, _, _, _, _, _, _, _, _, _, _, _, _, _, _, _]) rfl ?_
  exact z_vret F E rfl dX6_init_377 (by omega) (by omega) (⟨rfl, rfl⟩)
end CA8
