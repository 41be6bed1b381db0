/-! the JDK's list and boxed ints -/
section C9yp
abbrev eLs (m : Int32) (c : Nat) (v : zV) : zE := zO 15 [zi m, v, zi (nI c)]
abbrev zAv (n : Nat) (g : Nat → Value) : zE := zAr 8 n (fun i => .inl (g i))
theorem zput_av {g : Nat → Value} {i : Nat} {v : Value} : zput (fun i => (.inl (g i) : zV)) i (.inl v) = fun j => .inl (zput g i v j) := by
  funext j
  simp only [zput]
  split <;> rfl
theorem cacheI {i : Nat} (h : i < 128) : nI i + nI 128 = nI (i + 128) := nI_add i 128
theorem vb_cI {i : Nat} (h : i < 128) : vb_c (i + 128) = nI i := by
  unfold vb_c
  rw [show Int32.ofNat (i + 128) = nI i + nI 128 from (nI_add i 128).symm]
  show nI i + nI 128 - 128 = nI i
  exact (by decide +kernel : ∀ i, i < 128 → nI i + nI 128 - 128 = nI i) i h
theorem c_JvalueOf (D : va_G) (i : Nat) (hi : i < 128) : zCtrD D yJ8_valueOf cJ8_valueOf 1 (some (.object "java/lang/Intege\x72")) 1 0 0 [zi (nI i)] [zH] (fun r w => r = some (zq (D.2 1000 (i + 128))) ∧ w = [zH]) zNx := by
  refine z_startD (by decide) [some (zi (nI i))] rfl (fun _ => Nat.le_of_ble_eq_true rfl) (fun _ => rfl) (fun X hD F E hno hin => ?_)
  subst hD
  have h1 : ¬ nI i < -128 := fun z => nI_pos (show i < 2 ^ 31 by omega) (Int32.lt_trans z (by decide))
  refine z_iload_n F dJ8_valueOf_0 rfl ?_
  refine z_bipush F (-128) dJ8_valueOf_1 rfl ?_
  refine z_icmp_lt F (tgt := 23) dJ8_valueOf_3 (by decide) (fun c_3 => ?_) (fun c_3 => ?_)
  · exact absurd c_3 h1
  · refine z_iload_n F dJ8_valueOf_6 rfl ?_
    refine z_gets F (F.con.1) q1091 dJ8_valueOf_7 ?_
    refine z_icmp_gt F (tgt := 23) dJ8_valueOf_10 (by decide) (fun c_10 => ?_) (fun c_10 => ?_)
    · exact absurd c_10 (nI_nlt (show i ≤ 127 by omega) (by decide))
    · refine z_gets F (F.con.2.1) q1093 dJ8_valueOf_13 ?_
      refine z_iload_n F dJ8_valueOf_16 rfl ?_
      refine z_sipush F (nI 128) dJ8_valueOf_17 rfl ?_
      refine z_iaddN F dJ8_valueOf_20 ?_
      refine z_aaldQ F (F.con.2.2.1) (by decide) (by omega) (rfl) dJ8_valueOf_21 ?_
      exact z_aretQ F E rfl (Or.inl ⟨_, rfl⟩) dJ8_valueOf_22 (by omega) (by omega) (⟨rfl, rfl⟩)
theorem c_JintValue (D : va_G) (i : Nat) (hi : i < 128) : zCtrD D yJ8_intValue cJ8_intValue 1 (some .int) 0 0 0 [zq (D.2 1000 (i + 128))] [zH] (fun r w => r = some (zi (nI i)) ∧ w = [zH]) zNx := by
  refine z_startD (by decide) [some (zq (D.2 1000 (i + 128)))] rfl (fun _ => Nat.le_of_ble_eq_true rfl) (fun _ => rfl) (fun X hD F E hno hin => ?_)
  subst hD
  have hv := F.con.2.2.2.1.2 (i + 128) (by omega)
  simp only [vb_cI hi] at hv
  refine z_aloadQ_n F dJ8_intValue_0 rfl ?_
  refine z_getQ F (hv) q1104 dJ8_intValue_1 ?_
  exact z_iret F E rfl dJ8_intValue_4 (by omega) (by omega) (⟨rfl, rfl⟩)
theorem c_JpreCheck (i n : Nat) (hi : i < n) (hn : n < 2 ^ 31) : zCtr yJ13_checkIndex cJ13_checkIndex 3 (some .int) 0 0 0 [zi (nI i), zi (nI n), zn] [zH] (fun r w => r = some (zi (nI i)) ∧ w = [zH]) zNx := by
  refine z_start (by decide) [some (zi (nI i)), some (zi (nI n)), some zn] rfl (fun _ => Nat.le_of_ble_eq_true rfl) (fun _ => rfl) (fun X F E hno hin => ?_)
  refine z_iload_n F dJ13_checkIndex_0 rfl ?_
  refine z_if_ltN F (by omega) (tgt := 9) dJ13_checkIndex_1 (by decide) (fun c_1 => ?_) (fun c_1 => ?_)
  · exact absurd c_1 (by omega)
  · refine z_iload_n F dJ13_checkIndex_4 rfl ?_
    refine z_iload_n F dJ13_checkIndex_5 rfl ?_
    refine z_icmp_ltN F (by omega) (by omega) (tgt := 16) dJ13_checkIndex_6 (by decide) (fun c_6 => ?_) (fun c_6 => ?_)
    · refine z_iload_n F dJ13_checkIndex_16 rfl ?_
      exact z_iret F E rfl dJ13_checkIndex_17 (by omega) (by omega) (⟨rfl, rfl⟩)
    · exact absurd c_6 (by omega)
theorem c_JobjCheck (i n : Nat) (hi : i < n) (hn : n < 2 ^ 31) : zCtr yJ17_checkIndex cJ17_checkIndex 2 (some .int) 1 0 0 [zi (nI i), zi (nI n)] [zH] (fun r w => r = some (zi (nI i)) ∧ w = [zH]) zNx := by
  refine z_start (by decide) [some (zi (nI i)), some (zi (nI n))] rfl (fun _ => Nat.le_of_ble_eq_true rfl) (fun _ => rfl) (fun X F E hno hin => ?_)
  refine z_iload_n F dJ17_checkIndex_0 rfl ?_
  refine z_iload_n F dJ17_checkIndex_1 rfl ?_
  refine z_null F dJ17_checkIndex_2 ?_
  refine z_callS F (c_JpreCheck i n hi hn) 3 rfl (lw_S q1201 q657 q129 q658) (by decide +kernel) ⟨Nat.le_of_ble_eq_true rfl, Nat.le_of_ble_eq_true rfl⟩ ⟨by omega, by omega⟩ [0] 1 ⟨rfl, rfl, rfl, ⟨Or.inl rfl, trivial⟩⟩ (fun h => nomatch h) (Nat.le_of_ble_eq_true rfl) ⟨⟨Or.inr trivial, trivial⟩, rfl, rfl, rfl, Nat.le_of_ble_eq_true rfl⟩ rfl rfl dJ17_checkIndex_3 (fun r_3 w_3 hp => ?_) (fun _ _ h => h.elim)
  obtain ⟨rfl, rfl⟩ := hp
  refine z_weq (w' := [zH]) rfl ?_
  refine z_seq (S' := zi _ :: _) rfl ?_
  exact z_iret F E rfl dJ17_checkIndex_6 (by omega) (by omega) (⟨rfl, rfl⟩)
theorem c_Jsize (D : va_G) (m : Int32) (c : Nat) (v : zV) : zCtrD D yJ2_size cJ2_size 1 (some .int) 0 0 0 [zr 1 0] [zH, eLs m c v, zH] (fun r w => r = some (zi (nI c)) ∧ w = [zH, eLs m c v, zH]) zNx := by
  refine z_startD (by decide) [some (zr 1 0)] rfl (fun _ => Nat.le_of_ble_eq_true rfl) (fun _ => rfl) (fun X hD F E hno hin => ?_)
  subst hD
  refine z_aload_n F dJ2_size_0 rfl ?_
  refine z_get F zCL (f := 2) rfl (Nat.le_of_ble_eq_true rfl) q211 rfl dJ2_size_1 ?_
  exact z_iret F E rfl dJ2_size_4 (by omega) (by omega) (⟨rfl, rfl⟩)
theorem c_JelD (D : va_G) (m : Int32) (c i a : Nat) (f : Nat → Value) (hi : i < 10) (hf : f i = .ref a) : zCtrD D yJ2_elementData cJ2_elementData 2 (some (.object "java/lang/Object")) 0 0 0 [zr 1 0, zi (nI i)] [zH, eLs m c (zr 2 0), zAv 10 f] (fun r w => r = some (zq a) ∧ w = [zH, eLs m c (zr 2 0), zAv 10 f]) zNx := by
  refine z_startD (by decide) [some (zr 1 0), some (zi (nI i))] rfl (fun _ => Nat.le_of_ble_eq_true rfl) (fun _ => rfl) (fun X hD F E hno hin => ?_)
  subst hD
  refine z_aload_n F dJ2_elementData_0 rfl ?_
  refine z_get F zCL (f := 1) rfl (Nat.le_of_ble_eq_true rfl) q210 rfl dJ2_elementData_1 ?_
  refine z_iload_n F dJ2_elementData_4 rfl ?_
  refine z_aaldR F rfl (by decide) (by omega) (congrArg Sum.inl hf) (Or.inr (Or.inl ⟨_, rfl⟩)) dJ2_elementData_5 ?_
  exact z_aretQ F E rfl (Or.inl ⟨_, rfl⟩) dJ2_elementData_6 (by omega) (by omega) (⟨rfl, rfl⟩)
theorem c_Jget (D : va_G) (m : Int32) (c i a : Nat) (f : Nat → Value) (hi : i < c) (hc : c ≤ 10) (hf : f i = .ref a) : zCtrD D yJ2_get cJ2_get 2 (some (.object "java/lang/Object")) 2 0 0 [zr 1 0, zi (nI i)] [zH, eLs m c (zr 2 0), zAv 10 f] (fun r w => r = some (zq a) ∧ w = [zH, eLs m c (zr 2 0), zAv 10 f]) zNx := by
  refine z_startD (by decide) [some (zr 1 0), some (zi (nI i))] rfl (fun _ => Nat.le_of_ble_eq_true rfl) (fun _ => rfl) (fun X hD F E hno hin => ?_)
  subst hD
  refine z_iload_n F dJ2_get_0 rfl ?_
  refine z_aload_n F dJ2_get_1 rfl ?_
  refine z_get F zCL (f := 2) rfl (Nat.le_of_ble_eq_true rfl) q211 rfl dJ2_get_2 ?_
  refine z_callS F (c_JobjCheck i c hi (by omega)) 2 rfl (lw_S q1198 q1199 q139 q1200) (by decide +kernel) ⟨Nat.le_of_ble_eq_true rfl, Nat.le_of_ble_eq_true rfl⟩ ⟨by omega, by omega⟩ [0] 3 ⟨rfl, rfl, rfl, ⟨Or.inl rfl, trivial⟩⟩ (fun h => nomatch h) (Nat.le_of_ble_eq_true rfl) ⟨⟨Or.inr trivial, Or.inr rfl, Or.inr (fun _ => rfl), trivial⟩, rfl, rfl, rfl, Nat.le_of_ble_eq_true rfl⟩ rfl rfl dJ2_get_5 (fun r_5 w_5 hp => ?_) (fun _ _ h => h.elim)
  obtain ⟨rfl, rfl⟩ := hp
  refine z_weq (w' := [zH, zO _ [zi _, zr _ _, zi _], zAr _ 10 _]) rfl ?_
  refine z_seq (S' := zi _ :: _) rfl ?_
  refine z_pop F dJ2_get_8 rfl ?_
  refine z_aload_n F dJ2_get_9 rfl ?_
  refine z_iload_n F dJ2_get_10 rfl ?_
  refine z_callVD F (c_JelD _ m c i a f (by omega) hf) 1 rfl (lw_V q1202 q1203 q1204 q114 q1205) (by decide +kernel) ⟨Nat.le_of_ble_eq_true rfl, Nat.le_of_ble_eq_true rfl⟩ ⟨by omega, by omega⟩ [0, 1, 2] 3 ⟨rfl, rfl, rfl, ⟨Or.inl rfl, Or.inr rfl, Or.inr rfl, trivial⟩⟩ (fun h => nomatch h) (Nat.le_of_ble_eq_true rfl) ⟨⟨Or.inr trivial, Or.inl rfl, Or.inl rfl, trivial⟩, rfl, rfl, rfl, Nat.le_of_ble_eq_true rfl⟩ rfl zCL rfl rfl dJ2_get_11 (fun r_11 w_11 hp => ?_) (fun _ _ h => h.elim)
  obtain ⟨rfl, rfl⟩ := hp
  refine z_weq (w' := [zH, zO _ [zi _, zr _ _, zi _], zAr _ 10 _]) rfl ?_
  refine z_seq (S' := zq _ :: _) rfl ?_
  exact z_aretQ F E rfl (Or.inl ⟨_, rfl⟩) dJ2_get_14 (by omega) (by omega) (⟨rfl, rfl⟩)
theorem c_Jgrow2 (D : va_G) (m : Int32) : zCtrD D yJ2_grow_2 cJ2_grow_2 4 (some (.array (.object "java/lang/Object"))) 1 1 10 [zr 1 0, zi (nI 1)] [zH, eLs m 0 (zq (D.2 1001 1))] (fun r w => r = some (zr 2 0) ∧ w = [zH, eLs m 0 (zr 2 0), zAv 10 (fun _ => .null)]) zNx := by
  refine z_startD (by decide) [some (zr 1 0), some (zi (nI 1)), none, none] rfl (fun _ => Nat.le_of_ble_eq_true rfl) (fun _ => rfl) (fun X hD F E hno hin => ?_)
  subst hD
  refine z_aload_n F dJ2_grow_2_0 rfl ?_
  refine z_get F zCL (f := 1) rfl (Nat.le_of_ble_eq_true rfl) q210 rfl dJ2_grow_2_1 ?_
  refine z_alenQ F (F.con.2.2.2.2.2.1) dJ2_grow_2_4 ?_
  refine z_istore_n F dJ2_grow_2_5 (Nat.le_of_ble_eq_true rfl) ?_
  refine z_leq (L' := [_, _, _, _]) rfl ?_
  refine z_iload_n F dJ2_grow_2_6 rfl ?_
  refine z_if_gtN F (by omega) (tgt := 20) dJ2_grow_2_7 (by decide) (fun c_7 => ?_) (fun c_7 => ?_)
  · exact absurd c_7 (by omega)
  · refine z_aload_n F dJ2_grow_2_10 rfl ?_
    refine z_get F zCL (f := 1) rfl (Nat.le_of_ble_eq_true rfl) q210 rfl dJ2_grow_2_11 ?_
    refine z_gets F (F.con.2.2.2.2.1) q208 dJ2_grow_2_14 ?_
    refine z_acmp_eqQ F (tgt := 45) dJ2_grow_2_17 (by decide) ?_
    refine z_aload_n F dJ2_grow_2_45 rfl ?_
    refine z_bipush F (nI 10) dJ2_grow_2_46 rfl ?_
    refine z_iload_n F dJ2_grow_2_48 rfl ?_
    refine z_mmax F q1171 dJ2_grow_2_49 (Nat.le_of_ble_eq_true rfl) rfl (Nat.le_of_ble_eq_true rfl) ⟨by omega, by omega⟩ ?_
    refine z_ieq (mmaxN (by omega) (by omega)) ?_
    refine z_ieq (show nI (max 10 1) = nI 10 from rfl) ?_
    refine z_newq F (M := 10) 2 (t := 8) (fun _ => rfl) q1172 q1165 (nI_pos (by omega)) (zcl_n (by omega)) (by omega) rfl (Nat.le_of_ble_eq_true rfl) ⟨trivial, rfl, trivial⟩ rfl rfl ⟨by omega, by omega⟩ dJ2_grow_2_52 ?_
    refine z_weq (w' := [zH, zO _ [zi _, zq _, zi _], zAr _ 10 _]) rfl ?_
    refine z_dup_x1 F dJ2_grow_2_55 rfl rfl ?_
    refine z_put F zCL (f := 1) rfl (Nat.le_of_ble_eq_true rfl) q210 rfl (fun _ => rfl) (fun _ => rfl) (Nat.le_of_ble_eq_true rfl) dJ2_grow_2_56 ?_
    refine z_weq (w' := [_, zO _ [_, _, _], _]) rfl ?_
    exact z_aret F E rfl (Or.inr ⟨_, rfl⟩) dJ2_grow_2_59 (by omega) (by omega) (⟨rfl, rfl⟩)
theorem c_Jgrow1 (D : va_G) (m : Int32) : zCtrD D yJ2_grow cJ2_grow 1 (some (.array (.object "java/lang/Object"))) 2 1 10 [zr 1 0] [zH, eLs m 0 (zq (D.2 1001 1))] (fun r w => r = some (zr 2 0) ∧ w = [zH, eLs m 0 (zr 2 0), zAv 10 (fun _ => .null)]) zNx := by
  refine z_startD (by decide) [some (zr 1 0)] rfl (fun _ => Nat.le_of_ble_eq_true rfl) (fun _ => rfl) (fun X hD F E hno hin => ?_)
  subst hD
  refine z_aload_n F dJ2_grow_0 rfl ?_
  refine z_aload_n F dJ2_grow_1 rfl ?_
  refine z_get F zCL (f := 2) rfl (Nat.le_of_ble_eq_true rfl) q211 rfl dJ2_grow_2 ?_
  refine z_iconst F (nI 1) dJ2_grow_5 rfl ?_
  refine z_iaddN F dJ2_grow_6 ?_
  refine z_ieq ((rfl : nI (0 + 1) = nI 1)) ?_
  refine z_callVD F (c_Jgrow2 _ m) 1 rfl (lw_V q1125 q1127 qs26 q114 q1128) (by decide +kernel) ⟨Nat.le_of_ble_eq_true rfl, Nat.le_of_ble_eq_true rfl⟩ ⟨by omega, by omega⟩ [0, 1] 2 ⟨rfl, rfl, rfl, ⟨Or.inl rfl, Or.inr rfl, trivial⟩⟩ (fun h => nomatch h) (Nat.le_of_ble_eq_true rfl) ⟨⟨Or.inr trivial, Or.inl rfl, trivial⟩, rfl, rfl, rfl, Nat.le_of_ble_eq_true rfl⟩ rfl zCL rfl rfl dJ2_grow_7 (fun r_7 w_7 hp => ?_) (fun _ _ h => h.elim)
  obtain ⟨rfl, rfl⟩ := hp
  refine z_weq (w' := [zH, zO _ [zi _, zr _ _, zi _], zAr _ 10 _]) rfl ?_
  refine z_seq (S' := zr _ _ :: _) rfl ?_
  exact z_aret F E rfl (Or.inr ⟨_, rfl⟩) dJ2_grow_10 (by omega) (by omega) (⟨rfl, rfl⟩)
theorem c_Jadd0 (D : va_G) (m : Int32) (j : Nat) (hj : j < 256) : zCtrD D yJ2_add_2 cJ2_add_2 4 none 3 1 10 [zr 1 0, zq (D.2 1000 j), zq (D.2 1001 1), zi (nI 0)] [zH, eLs m 0 (zq (D.2 1001 1))] (fun r w => r = none ∧ w = [zH, eLs m 1 (zr 2 0), zAv 10 (zput (fun _ => .null) 0 (.ref (D.2 1000 j)))]) zNx := by
  refine z_startD (by decide) [some (zr 1 0), some (zq (D.2 1000 j)), some (zq (D.2 1001 1)), some (zi (nI 0))] rfl (fun _ => Nat.le_of_ble_eq_true rfl) (fun _ => rfl) (fun X hD F E hno hin => ?_)
  subst hD
  refine z_iload_n F dJ2_add_2_0 rfl ?_
  refine z_aloadQ_n F dJ2_add_2_1 rfl ?_
  refine z_alenQ F (F.con.2.2.2.2.2.1) dJ2_add_2_2 ?_
  refine z_icmp_neN F (by omega) (by omega) (tgt := 11) dJ2_add_2_3 (by decide) (fun c_3 => ?_) (fun c_3 => ?_)
  · exact absurd rfl c_3
  · refine z_aload_n F dJ2_add_2_6 rfl ?_
    refine z_callVD F (c_Jgrow1 _ m) 0 rfl (lw_V q1121 q1123 qs25 q114 q1124) (by decide +kernel) ⟨Nat.le_of_ble_eq_true rfl, Nat.le_of_ble_eq_true rfl⟩ ⟨by omega, by omega⟩ [0, 1] 2 ⟨rfl, rfl, rfl, ⟨Or.inl rfl, Or.inr rfl, trivial⟩⟩ (fun h => nomatch h) (Nat.le_of_ble_eq_true rfl) ⟨⟨Or.inr trivial, Or.inl rfl, trivial⟩, rfl, rfl, rfl, Nat.le_of_ble_eq_true rfl⟩ rfl zCL rfl rfl dJ2_add_2_7 (fun r_7 w_7 hp => ?_) (fun _ _ h => h.elim)
    obtain ⟨rfl, rfl⟩ := hp
    refine z_weq (w' := [zH, zO _ [zi _, zr _ _, zi _], zAr _ 10 _]) rfl ?_
    refine z_seq (S' := zr _ _ :: _) rfl ?_
    refine z_astore_n F dJ2_add_2_10 (Nat.le_of_ble_eq_true rfl) ?_
    refine z_leq (L' := [_, _, _, _]) rfl ?_
    refine z_aload_n F dJ2_add_2_11 rfl ?_
    refine z_iload_n F dJ2_add_2_12 rfl ?_
    refine z_aloadQ_n F dJ2_add_2_13 rfl ?_
    refine z_aastQ F rfl (F.con.2.2.2.1.1 j hj) q2182 (by decide) (by omega) dJ2_add_2_14 ?_
    refine z_weq (w' := [zH, zO _ [zi _, zr _ _, zi _], zAr _ 10 _]) rfl ?_
    refine z_aload_n F dJ2_add_2_15 rfl ?_
    refine z_iload_n F dJ2_add_2_16 rfl ?_
    refine z_iconst F (nI 1) dJ2_add_2_17 rfl ?_
    refine z_iaddN F dJ2_add_2_18 ?_
    refine z_ieq ((rfl : nI (0 + 1) = nI 1)) ?_
    refine z_put F zCL (f := 2) rfl (Nat.le_of_ble_eq_true rfl) q211 rfl (fun _ => rfl) (fun _ => rfl) (Nat.le_of_ble_eq_true rfl) dJ2_add_2_19 ?_
    refine z_weq (w' := [_, zO _ [_, _, _], _]) rfl ?_
    exact z_vret F E rfl dJ2_add_2_22 (by omega) (by omega) (⟨rfl, congrArg (fun z => [zH, eLs m 1 (zr 2 0), zAr 8 10 z]) (zput_av (g := fun _ => .null))⟩)
theorem c_Jadd1 (D : va_G) (m : Int32) (c j : Nat) (f : Nat → Value) (hc : c < 10) (hj : j < 256) : zCtrD D yJ2_add_2 cJ2_add_2 4 none 3 1 10 [zr 1 0, zq (D.2 1000 j), zr 2 0, zi (nI c)] [zH, eLs m c (zr 2 0), zAv 10 f] (fun r w => r = none ∧ w = [zH, eLs m (c + 1) (zr 2 0), zAv 10 (zput f c (.ref (D.2 1000 j)))]) zNx := by
  refine z_startD (by decide) [some (zr 1 0), some (zq (D.2 1000 j)), some (zr 2 0), some (zi (nI c))] rfl (fun _ => Nat.le_of_ble_eq_true rfl) (fun _ => rfl) (fun X hD F E hno hin => ?_)
  subst hD
  refine z_iload_n F dJ2_add_2_0 rfl ?_
  refine z_aload_n F dJ2_add_2_1 rfl ?_
  refine z_alenN F (fun _ => rfl) rfl dJ2_add_2_2 ?_
  refine z_icmp_neN F (by omega) (by omega) (tgt := 11) dJ2_add_2_3 (by decide) (fun c_3 => ?_) (fun c_3 => ?_)
  · refine z_aload_n F dJ2_add_2_11 rfl ?_
    refine z_iload_n F dJ2_add_2_12 rfl ?_
    refine z_aloadQ_n F dJ2_add_2_13 rfl ?_
    refine z_aastQ F rfl (F.con.2.2.2.1.1 j hj) q2182 (by decide) (by omega) dJ2_add_2_14 ?_
    refine z_weq (w' := [zH, zO _ [zi _, zr _ _, zi _], zAr _ 10 _]) rfl ?_
    refine z_aload_n F dJ2_add_2_15 rfl ?_
    refine z_iload_n F dJ2_add_2_16 rfl ?_
    refine z_iconst F (nI 1) dJ2_add_2_17 rfl ?_
    refine z_iaddN F dJ2_add_2_18 ?_
    refine z_put F zCL (f := 2) rfl (Nat.le_of_ble_eq_true rfl) q211 rfl (fun _ => rfl) (fun _ => rfl) (Nat.le_of_ble_eq_true rfl) dJ2_add_2_19 ?_
    refine z_weq (w' := [_, zO _ [_, _, _], _]) rfl ?_
    exact z_vret F E rfl dJ2_add_2_22 (by omega) (by omega) (⟨rfl, by rw [zput_av]⟩)
  · exact absurd c_3 (by omega)
theorem c_JaddA (D : va_G) (m : Int32) (j : Nat) (hj : j < 256) : zCtrD D yJ2_add cJ2_add 2 (some .boolean) 4 1 10 [zr 1 0, zq (D.2 1000 j)] [zH, eLs m 0 (zq (D.2 1001 1))] (fun r w => r = some (zi (nI 1)) ∧ w = [zH, eLs (m + nI 1) 1 (zr 2 0), zAv 10 (zput (fun _ => .null) 0 (.ref (D.2 1000 j)))]) zNx := by
  refine z_startD (by decide) [some (zr 1 0), some (zq (D.2 1000 j))] rfl (fun _ => Nat.le_of_ble_eq_true rfl) (fun _ => rfl) (fun X hD F E hno hin => ?_)
  subst hD
  refine z_aload_n F dJ2_add_0 rfl ?_
  refine z_dup F dJ2_add_1 rfl ?_
  refine z_getS F zCL (f := 0) rfl (Nat.le_of_ble_eq_true rfl) q213 q214 rfl dJ2_add_2 ?_
  refine z_iconst F (nI 1) dJ2_add_5 rfl ?_
  refine z_iadd F dJ2_add_6 ?_
  refine z_putS F zCL (f := 0) rfl (Nat.le_of_ble_eq_true rfl) q213 q214 rfl (fun _ => rfl) (fun _ => rfl) (Nat.le_of_ble_eq_true rfl) dJ2_add_7 ?_
  refine z_weq (w' := [_, zO _ [_, _, _]]) rfl ?_
  refine z_aload_n F dJ2_add_10 rfl ?_
  refine z_aloadQ_n F dJ2_add_11 rfl ?_
  refine z_aload_n F dJ2_add_12 rfl ?_
  refine z_get F zCL (f := 1) rfl (Nat.le_of_ble_eq_true rfl) q210 rfl dJ2_add_13 ?_
  refine z_aload_n F dJ2_add_16 rfl ?_
  refine z_get F zCL (f := 2) rfl (Nat.le_of_ble_eq_true rfl) q211 rfl dJ2_add_17 ?_
  refine z_callVD F (c_Jadd0 _ (m + nI 1) j hj) 3 rfl (lw_V q1117 q1119 qs24 q114 q1120) (by decide +kernel) ⟨Nat.le_of_ble_eq_true rfl, Nat.le_of_ble_eq_true rfl⟩ ⟨by omega, by omega⟩ [0, 1] 2 ⟨rfl, rfl, rfl, ⟨Or.inl rfl, Or.inr rfl, trivial⟩⟩ (fun h => nomatch h) (Nat.le_of_ble_eq_true rfl) ⟨⟨Or.inr trivial, Or.inl rfl, trivial⟩, rfl, rfl, rfl, Nat.le_of_ble_eq_true rfl⟩ rfl zCL rfl rfl dJ2_add_20 (fun r_20 w_20 hp => ?_) (fun _ _ h => h.elim)
  obtain ⟨rfl, rfl⟩ := hp
  refine z_weq (w' := [zH, zO _ [zi _, zr _ _, zi _], zAr _ 10 _]) rfl ?_
  refine z_seq (S' := []) rfl ?_
  refine z_iconst F (nI 1) dJ2_add_23 rfl ?_
  exact z_zret F E rfl rfl dJ2_add_24 (by omega) (by omega) (⟨rfl, rfl⟩)
theorem c_JaddB (D : va_G) (m : Int32) (c j : Nat) (f : Nat → Value) (hc : c < 10) (hj : j < 256) : zCtrD D yJ2_add cJ2_add 2 (some .boolean) 4 1 10 [zr 1 0, zq (D.2 1000 j)] [zH, eLs m c (zr 2 0), zAv 10 f] (fun r w => r = some (zi (nI 1)) ∧ w = [zH, eLs (m + nI 1) (c + 1) (zr 2 0), zAv 10 (zput f c (.ref (D.2 1000 j)))]) zNx := by
  refine z_startD (by decide) [some (zr 1 0), some (zq (D.2 1000 j))] rfl (fun _ => Nat.le_of_ble_eq_true rfl) (fun _ => rfl) (fun X hD F E hno hin => ?_)
  subst hD
  refine z_aload_n F dJ2_add_0 rfl ?_
  refine z_dup F dJ2_add_1 rfl ?_
  refine z_getS F zCL (f := 0) rfl (Nat.le_of_ble_eq_true rfl) q213 q214 rfl dJ2_add_2 ?_
  refine z_iconst F (nI 1) dJ2_add_5 rfl ?_
  refine z_iadd F dJ2_add_6 ?_
  refine z_putS F zCL (f := 0) rfl (Nat.le_of_ble_eq_true rfl) q213 q214 rfl (fun _ => rfl) (fun _ => rfl) (Nat.le_of_ble_eq_true rfl) dJ2_add_7 ?_
  refine z_weq (w' := [_, zO _ [_, _, _], _]) rfl ?_
  refine z_aload_n F dJ2_add_10 rfl ?_
  refine z_aloadQ_n F dJ2_add_11 rfl ?_
  refine z_aload_n F dJ2_add_12 rfl ?_
  refine z_get F zCL (f := 1) rfl (Nat.le_of_ble_eq_true rfl) q210 rfl dJ2_add_13 ?_
  refine z_aload_n F dJ2_add_16 rfl ?_
  refine z_get F zCL (f := 2) rfl (Nat.le_of_ble_eq_true rfl) q211 rfl dJ2_add_17 ?_
  refine z_callVD F (c_Jadd1 _ (m + nI 1) c j f hc hj) 3 rfl (lw_V q1117 q1119 qs24 q114 q1120) (by decide +kernel) ⟨Nat.le_of_ble_eq_true rfl, Nat.le_of_ble_eq_true rfl⟩ ⟨by omega, by omega⟩ [0, 1, 2] 3 ⟨rfl, rfl, rfl, ⟨Or.inl rfl, Or.inr rfl, Or.inr rfl, trivial⟩⟩ (fun h => nomatch h) (Nat.le_of_ble_eq_true rfl) ⟨⟨Or.inr trivial, Or.inl rfl, Or.inl rfl, trivial⟩, rfl, rfl, rfl, Nat.le_of_ble_eq_true rfl⟩ rfl zCL rfl rfl dJ2_add_20 (fun r_20 w_20 hp => ?_) (fun _ _ h => h.elim)
  obtain ⟨rfl, rfl⟩ := hp
  refine z_weq (w' := [zH, zO _ [zi _, zr _ _, zi _], zAr _ 10 _]) rfl ?_
  refine z_seq (S' := []) rfl ?_
  refine z_iconst F (nI 1) dJ2_add_23 rfl ?_
  exact z_zret F E rfl rfl dJ2_add_24 (by omega) (by omega) (⟨rfl, rfl⟩)
theorem c_Jclear0 (D : va_G) (m : Int32) : zCtrD D yJ2_clear cJ2_clear 4 none 0 0 0 [zr 1 0] [zH, eLs m 0 (zq (D.2 1001 1))] (fun r w => r = none ∧ w = [zH, eLs (m + nI 1) 0 (zq (D.2 1001 1))]) zNx := by
  refine z_startD (by decide) [some (zr 1 0), none, none, none] rfl (fun _ => Nat.le_of_ble_eq_true rfl) (fun _ => rfl) (fun X hD F E hno hin => ?_)
  subst hD
  refine z_aload_n F dJ2_clear_0 rfl ?_
  refine z_dup F dJ2_clear_1 rfl ?_
  refine z_getS F zCL (f := 0) rfl (Nat.le_of_ble_eq_true rfl) q213 q214 rfl dJ2_clear_2 ?_
  refine z_iconst F (nI 1) dJ2_clear_5 rfl ?_
  refine z_iadd F dJ2_clear_6 ?_
  refine z_putS F zCL (f := 0) rfl (Nat.le_of_ble_eq_true rfl) q213 q214 rfl (fun _ => rfl) (fun _ => rfl) (Nat.le_of_ble_eq_true rfl) dJ2_clear_7 ?_
  refine z_weq (w' := [_, zO _ [_, _, _]]) rfl ?_
  refine z_aload_n F dJ2_clear_10 rfl ?_
  refine z_get F zCL (f := 1) rfl (Nat.le_of_ble_eq_true rfl) q210 rfl dJ2_clear_11 ?_
  refine z_astoreQ_n F dJ2_clear_14 (Nat.le_of_ble_eq_true rfl) ?_
  refine z_leq (L' := [_, _, _, _]) rfl ?_
  refine z_aload_n F dJ2_clear_15 rfl ?_
  refine z_get F zCL (f := 2) rfl (Nat.le_of_ble_eq_true rfl) q211 rfl dJ2_clear_16 ?_
  refine z_istore_n F dJ2_clear_19 (Nat.le_of_ble_eq_true rfl) ?_
  refine z_leq (L' := [_, _, _, _]) rfl ?_
  refine z_aload_n F dJ2_clear_20 rfl ?_
  refine z_iconst F (nI 0) dJ2_clear_21 rfl ?_
  refine z_dup_x1 F dJ2_clear_22 rfl rfl ?_
  refine z_put F zCL (f := 2) rfl (Nat.le_of_ble_eq_true rfl) q211 rfl (fun _ => rfl) (fun _ => rfl) (Nat.le_of_ble_eq_true rfl) dJ2_clear_23 ?_
  refine z_weq (w' := [_, zO _ [_, _, _]]) rfl ?_
  refine z_istore_n F dJ2_clear_26 (Nat.le_of_ble_eq_true rfl) ?_
  refine z_leq (L' := [_, _, _, _]) rfl ?_
  refine z_iload_n F dJ2_clear_27 rfl ?_
  refine z_iload_n F dJ2_clear_28 rfl ?_
  refine z_icmp_geN F (by omega) (by omega) (tgt := 42) dJ2_clear_29 (by decide) (fun c_29 => ?_) (fun c_29 => ?_)
  · exact z_vret F E rfl dJ2_clear_42 (by omega) (by omega) (⟨rfl, rfl⟩)
  · exact absurd c_29 (by omega)
theorem c_Jclear1 (D : va_G) (m : Int32) (c : Nat) (f : Nat → Value) (hc : c ≤ 10) : zCtrD D yJ2_clear cJ2_clear 4 none 0 0 0 [zr 1 0] [zH, eLs m c (zr 2 0), zAv 10 f] (fun r w => r = none ∧ ∃ f', w = [zH, eLs (m + nI 1) 0 (zr 2 0), zAv 10 f']) zNx := by
  refine z_startD (by decide) [some (zr 1 0), none, none, none] rfl (fun _ => Nat.le_of_ble_eq_true rfl) (fun _ => rfl) (fun X hD F E hno hin => ?_)
  subst hD
  have lp : ∀ (u i : Nat) (g : Nat → Value), c - i < u → i ≤ c → Z X [some (zr 1 0), some (zr 2 0), some (zi (nI c)), some (zi (nI i))] [] [zH, eLs (m + nI 1) 0 (zr 2 0), zAv 10 g] 0 0 27 := by
    intro u
    induction u with
    | zero => intro i g hu; omega
    | succ u ih =>
      intro i g hu hi
      refine z_iload_n F dJ2_clear_27 rfl ?_
      refine z_iload_n F dJ2_clear_28 rfl ?_
      refine z_icmp_geN F (by omega) (by omega) (tgt := 42) dJ2_clear_29 (by decide) (fun c_29 => ?_) (fun c_29 => ?_)
      · exact z_vret F E rfl dJ2_clear_42 (by omega) (by omega) (⟨rfl, g, rfl⟩)
      · refine z_aload_n F dJ2_clear_32 rfl ?_
        refine z_iload_n F dJ2_clear_33 rfl ?_
        refine z_null F dJ2_clear_34 ?_
        refine z_aastZ F rfl (by decide) (by omega) dJ2_clear_35 ?_
        refine z_weq (w' := [zH, zO _ [zi _, zr _ _, zi _], zAr _ 10 _]) rfl ?_
        refine z_iincN F 1 dJ2_clear_36 rfl rfl ?_
        refine z_leq (L' := [_, _, _, _]) rfl ?_
        refine z_goto F (tgt := 27) dJ2_clear_39 (by decide) ?_
        refine z_weq (w' := [zH, eLs (m + nI 1) 0 (zr 2 0), zAv 10 (zput g i .null)]) (by rw [zput_av]) ?_
        exact ih (i + 1) _ (by omega) (by omega)
  refine z_aload_n F dJ2_clear_0 rfl ?_
  refine z_dup F dJ2_clear_1 rfl ?_
  refine z_getS F zCL (f := 0) rfl (Nat.le_of_ble_eq_true rfl) q213 q214 rfl dJ2_clear_2 ?_
  refine z_iconst F (nI 1) dJ2_clear_5 rfl ?_
  refine z_iadd F dJ2_clear_6 ?_
  refine z_putS F zCL (f := 0) rfl (Nat.le_of_ble_eq_true rfl) q213 q214 rfl (fun _ => rfl) (fun _ => rfl) (Nat.le_of_ble_eq_true rfl) dJ2_clear_7 ?_
  refine z_weq (w' := [_, zO _ [_, _, _], _]) rfl ?_
  refine z_aload_n F dJ2_clear_10 rfl ?_
  refine z_get F zCL (f := 1) rfl (Nat.le_of_ble_eq_true rfl) q210 rfl dJ2_clear_11 ?_
  refine z_astore_n F dJ2_clear_14 (Nat.le_of_ble_eq_true rfl) ?_
  refine z_leq (L' := [_, _, _, _]) rfl ?_
  refine z_aload_n F dJ2_clear_15 rfl ?_
  refine z_get F zCL (f := 2) rfl (Nat.le_of_ble_eq_true rfl) q211 rfl dJ2_clear_16 ?_
  refine z_istore_n F dJ2_clear_19 (Nat.le_of_ble_eq_true rfl) ?_
  refine z_leq (L' := [_, _, _, _]) rfl ?_
  refine z_aload_n F dJ2_clear_20 rfl ?_
  refine z_iconst F (nI 0) dJ2_clear_21 rfl ?_
  refine z_dup_x1 F dJ2_clear_22 rfl rfl ?_
  refine z_put F zCL (f := 2) rfl (Nat.le_of_ble_eq_true rfl) q211 rfl (fun _ => rfl) (fun _ => rfl) (Nat.le_of_ble_eq_true rfl) dJ2_clear_23 ?_
  refine z_weq (w' := [_, zO _ [_, _, _], _]) rfl ?_
  refine z_istore_n F dJ2_clear_26 (Nat.le_of_ble_eq_true rfl) ?_
  refine z_leq (L' := [_, _, _, _]) rfl ?_
  exact lp (c + 1) 0 f (by omega) (by omega)
end C9yp
