/-! groups: Group -/
section C95
theorem and1 (m : Int32) : m &&& nI 1 = bI (bt m 0) := by
  rw [← bt_and1 m (k := 0) (by decide)]
  rw [show (nI 0 &&& 31 : Int32) = 0 from by decide]
  simp
def grB (k a b : Int32) : Bool := inB k (nI 0) (nI 1) && (inB a (nI 1) (nI 24) && (inB b (nI 1) (nI 24) && (!decide (nI 24 < a * b) && (decide (k = nI 0) || decide (b = nI 2)))))
theorem grB_t {k a b : Int32} (h1 : inB k (nI 0) (nI 1) = true) (h2 : inB a (nI 1) (nI 24) = true) (h3 : inB b (nI 1) (nI 24) = true) (h4 : ¬ nI 24 < a * b) (h5 : k = nI 0 ∨ b = nI 2) : grB k a b = true := by
  unfold grB
  rw [h1, h2, h3, decide_eq_false h4]
  rcases h5 with h5 | h5
  · rw [decide_eq_true h5]; rfl
  · rw [decide_eq_true h5, Bool.or_true]; rfl
theorem grB_f {k a b : Int32} (h : inB k (nI 0) (nI 1) = false ∨ inB a (nI 1) (nI 24) = false ∨ inB b (nI 1) (nI 24) = false ∨ nI 24 < a * b ∨ (¬ k = nI 0 ∧ ¬ b = nI 2)) : grB k a b = false := by
  unfold grB
  rcases h with h | h | h | h | h
  · rw [h]; rfl
  · rw [h]; simp
  · rw [h]; simp
  · rw [decide_eq_true h]; simp
  · rw [decide_eq_false h.1, decide_eq_false h.2]; simp
theorem grB_of {k a b : Int32} (h : grB k a b = true) : ∃ kd x y, k = nI kd ∧ a = nI x ∧ b = nI y ∧ grok kd x y := by
  unfold grB at h
  simp only [Bool.and_eq_true, Bool.or_eq_true, Bool.not_eq_true', decide_eq_true_eq, decide_eq_false_iff_not] at h
  obtain ⟨h1, h2, h3, h4, h5⟩ := h
  obtain ⟨kd, -, k2, rfl⟩ := inB_of (by omega) (by omega) h1
  obtain ⟨x, x1, x2, rfl⟩ := inB_of (by omega) (by omega) h2
  obtain ⟨y, y1, y2, rfl⟩ := inB_of (by omega) (by omega) h3
  have hxy : x * y ≤ 24 * 24 := Nat.mul_le_mul x2 y2
  refine ⟨kd, x, y, rfl, rfl, rfl, by omega, x1, y1, ?_, fun q => ?_⟩
  · rw [pk_mul] at h4
    refine Nat.le_of_not_lt fun q => h4 ((nI_ltI (by omega) (by omega)).mpr q)
  · subst q
    rcases h5 with h5 | h5
    · exact absurd ((nI_eq (by omega) (by omega)).mp h5) (by omega)
    · exact (nI_eq (by omega) (by omega)).mp h5
theorem grB_n {kd a b : Nat} (h : grok kd a b) : grB (nI kd) (nI a) (nI b) = true := by
  obtain ⟨h1, h2, h3, h4, h5⟩ := h
  have ha : a ≤ 24 := Nat.le_trans (Nat.le_mul_of_pos_right a h3) h4
  have hb : b ≤ 24 := Nat.le_trans (Nat.le_mul_of_pos_left b h2) h4
  have inn : ∀ x y z, x ≤ y → y ≤ z → z < 100 → inB (nI y) (nI x) (nI z) = true := fun x y z q1 q2 q3 => by
    unfold inB
    rw [decide_eq_true_eq]
    exact ⟨fun z => absurd ((nI_ltI (by omega) (by omega)).mp z) (by omega), fun z => absurd ((nI_ltI (by omega) (by omega)).mp z) (by omega)⟩
  refine grB_t (inn 0 kd 1 (by omega) (by omega) (by omega)) (inn 1 a 24 h2 ha (by omega)) (inn 1 b 24 h3 hb (by omega)) (fun z => ?_) ?_
  · rw [pk_mul] at z
    have := (nI_ltI (by omega) (by omega)).mp z
    omega
  · by_cases q : kd = 0
    · exact Or.inl (by rw [q])
    · exact Or.inr (by rw [h5 (by omega)])
theorem xor01 {f g : Nat} (hf : f < 2) (hg : g < 2) : nI f ^^^ nI g = nI ((f + g) % 2) := by
  have h1 : f = 0 ∨ f = 1 := by omega
  have h2 : g = 0 ∨ g = 1 := by omega
  rcases h1 with rfl | rfl <;> rcases h2 with rfl | rfl <;> decide
theorem nI_sa {i j a : Nat} (h : j ≤ i + a) : nI i - nI j + nI a = nI (i + a - j) := by
  have e : nI (i + a - j) + nI j = nI i + nI a := by rw [nI_add, nI_add, Nat.sub_add_cancel h]
  have e2 : nI (i + a - j) = nI i + nI a - nI j := by rw [← e, Int32.add_sub_cancel]
  rw [e2, Int32.sub_eq_add_neg, Int32.sub_eq_add_neg, Int32.add_assoc, Int32.add_assoc, Int32.add_comm (-nI j)]
abbrev eGr (kd a b : Nat) : zE := zO 9 [zi (nI kd), zi (nI a), zi (nI (a * b))]
theorem c_gcan (k a b : Int32) : zCtr yX9_can cX9_can 3 (some .boolean) 1 0 0 [zi k, zi a, zi b] [zH] (fun r w => r = some (zi (bI (grB k a b))) ∧ w = [zH]) zNx := by
  refine z_start (by decide) [some (zi k), some (zi a), some (zi b)] rfl (fun _ => Nat.le_of_ble_eq_true rfl) (fun _ => rfl) (fun X F E hno hin => ?_)
  refine z_iload_n F dX9_can_0 rfl ?_
  refine z_iconst F (nI 0) dX9_can_1 rfl ?_
  refine z_iconst F (nI 1) dX9_can_2 rfl ?_
  refine z_callSN F (c_in k (nI 0) (nI 1)) 3 rfl (lw_meth q351) q109 q372 q350 (by decide +kernel) ⟨Nat.le_of_ble_eq_true rfl, Nat.le_of_ble_eq_true rfl⟩ ⟨by omega, by omega⟩ [0] 1 ⟨rfl, rfl, rfl, ⟨Or.inl rfl, trivial⟩⟩ (fun h => nomatch h) (Nat.le_of_ble_eq_true rfl) ⟨⟨Or.inr trivial, trivial⟩, rfl, rfl, rfl, Nat.le_of_ble_eq_true rfl⟩ rfl rfl dX9_can_3 (fun r_3 w_3 hp => ?_) (fun _ _ h => h.elim)
  obtain ⟨rfl, rfl⟩ := hp
  refine z_weq (w' := [zH]) rfl ?_
  refine z_seq (S' := zi _ :: _) rfl ?_
  refine z_if_eqB F (tgt := 50) dX9_can_6 (by decide) (fun c_6 => ?_) (fun c_6 => ?_)
  · refine z_iconstB F false dX9_can_50 rfl ?_
    exact z_zret F E rfl (bI_nar _) dX9_can_51 (by omega) (by omega) (⟨by rw [grB_f (Or.inl c_6)], rfl⟩)
  · refine z_iload_n F dX9_can_9 rfl ?_
    refine z_iconst F (nI 1) dX9_can_10 rfl ?_
    refine z_bipush F (nI 24) dX9_can_11 rfl ?_
    refine z_callSN F (c_in a (nI 1) (nI 24)) 3 rfl (lw_meth q351) q109 q372 q350 (by decide +kernel) ⟨Nat.le_of_ble_eq_true rfl, Nat.le_of_ble_eq_true rfl⟩ ⟨by omega, by omega⟩ [0] 1 ⟨rfl, rfl, rfl, ⟨Or.inl rfl, trivial⟩⟩ (fun h => nomatch h) (Nat.le_of_ble_eq_true rfl) ⟨⟨Or.inr trivial, trivial⟩, rfl, rfl, rfl, Nat.le_of_ble_eq_true rfl⟩ rfl rfl dX9_can_13 (fun r_13 w_13 hp => ?_) (fun _ _ h => h.elim)
    obtain ⟨rfl, rfl⟩ := hp
    refine z_weq (w' := [zH]) rfl ?_
    refine z_seq (S' := zi _ :: _) rfl ?_
    refine z_if_eqB F (tgt := 50) dX9_can_16 (by decide) (fun c_16 => ?_) (fun c_16 => ?_)
    · refine z_iconstB F false dX9_can_50 rfl ?_
      exact z_zret F E rfl (bI_nar _) dX9_can_51 (by omega) (by omega) (⟨by rw [grB_f (Or.inr (Or.inl c_16))], rfl⟩)
    · refine z_iload_n F dX9_can_19 rfl ?_
      refine z_iconst F (nI 1) dX9_can_20 rfl ?_
      refine z_bipush F (nI 24) dX9_can_21 rfl ?_
      refine z_callSN F (c_in b (nI 1) (nI 24)) 3 rfl (lw_meth q351) q109 q372 q350 (by decide +kernel) ⟨Nat.le_of_ble_eq_true rfl, Nat.le_of_ble_eq_true rfl⟩ ⟨by omega, by omega⟩ [0] 1 ⟨rfl, rfl, rfl, ⟨Or.inl rfl, trivial⟩⟩ (fun h => nomatch h) (Nat.le_of_ble_eq_true rfl) ⟨⟨Or.inr trivial, trivial⟩, rfl, rfl, rfl, Nat.le_of_ble_eq_true rfl⟩ rfl rfl dX9_can_23 (fun r_23 w_23 hp => ?_) (fun _ _ h => h.elim)
      obtain ⟨rfl, rfl⟩ := hp
      refine z_weq (w' := [zH]) rfl ?_
      refine z_seq (S' := zi _ :: _) rfl ?_
      refine z_if_eqB F (tgt := 50) dX9_can_26 (by decide) (fun c_26 => ?_) (fun c_26 => ?_)
      · refine z_iconstB F false dX9_can_50 rfl ?_
        exact z_zret F E rfl (bI_nar _) dX9_can_51 (by omega) (by omega) (⟨by rw [grB_f (Or.inr (Or.inr (Or.inl c_26)))], rfl⟩)
      · refine z_iload_n F dX9_can_29 rfl ?_
        refine z_iload_n F dX9_can_30 rfl ?_
        refine z_imul F dX9_can_31 ?_
        refine z_bipush F (nI 24) dX9_can_32 rfl ?_
        refine z_icmp_gt F (tgt := 50) dX9_can_34 (by decide) (fun c_34 => ?_) (fun c_34 => ?_)
        · refine z_iconstB F false dX9_can_50 rfl ?_
          exact z_zret F E rfl (bI_nar _) dX9_can_51 (by omega) (by omega) (⟨by rw [grB_f (Or.inr (Or.inr (Or.inr (Or.inl c_34))))], rfl⟩)
        · refine z_iload_n F dX9_can_37 rfl ?_
          refine z_if_eq F (tgt := 46) dX9_can_38 (by decide) (fun c_38 => ?_) (fun c_38 => ?_)
          · refine z_iconstB F true dX9_can_46 rfl ?_
            refine z_goto F (tgt := 51) dX9_can_47 (by decide) ?_
            exact z_zret F E rfl (bI_nar _) dX9_can_51 (by omega) (by omega) (⟨by rw [grB_t c_6 c_16 c_26 c_34 (Or.inl c_38)], rfl⟩)
          · refine z_iload_n F dX9_can_41 rfl ?_
            refine z_iconst F (nI 2) dX9_can_42 rfl ?_
            refine z_icmp_ne F (tgt := 50) dX9_can_43 (by decide) (fun c_43 => ?_) (fun c_43 => ?_)
            · refine z_iconstB F false dX9_can_50 rfl ?_
              exact z_zret F E rfl (bI_nar _) dX9_can_51 (by omega) (by omega) (⟨by rw [grB_f (Or.inr (Or.inr (Or.inr (Or.inr ⟨c_38, c_43⟩))))], rfl⟩)
            · refine z_iconstB F true dX9_can_46 rfl ?_
              refine z_goto F (tgt := 51) dX9_can_47 (by decide) ?_
              exact z_zret F E rfl (bI_nar _) dX9_can_51 (by omega) (by omega) (⟨by rw [grB_t c_6 c_16 c_26 c_34 (Or.inr c_43)], rfl⟩)
theorem c_ginit (kd a b : Nat) : zCtr yX9_init cX9_init 4 none 1 0 0 [zr 1 0, zi (nI kd), zi (nI a), zi (nI b)] [zH, zO 9 [zi 0, zi 0, zi 0]] (fun r w => r = none ∧ w = [zH, eGr kd a b]) zNx := by
  refine z_start (by decide) [some (zr 1 0), some (zi (nI kd)), some (zi (nI a)), some (zi (nI b))] rfl (fun _ => Nat.le_of_ble_eq_true rfl) (fun _ => rfl) (fun X F E hno hin => ?_)
  refine z_aload_n F dX9_init_0 rfl ?_
  refine z_objInit F q378 q149 q150 dX9_init_1 (Nat.le_of_ble_eq_true rfl) rfl (Nat.le_of_ble_eq_true rfl) ?_
  refine z_aload_n F dX9_init_4 rfl ?_
  refine z_iload_n F dX9_init_5 rfl ?_
  refine z_putF F zC9 (f := 0) rfl (Nat.le_of_ble_eq_true rfl) q379 rfl hin rfl (fun _ => rfl) (fun _ => rfl) (Nat.le_of_ble_eq_true rfl) dX9_init_6 ?_
  refine z_weq (w' := [_, zO _ [_, _, _]]) rfl ?_
  refine z_aload_n F dX9_init_9 rfl ?_
  refine z_iload_n F dX9_init_10 rfl ?_
  refine z_putF F zC9 (f := 1) rfl (Nat.le_of_ble_eq_true rfl) q380 rfl hin rfl (fun _ => rfl) (fun _ => rfl) (Nat.le_of_ble_eq_true rfl) dX9_init_11 ?_
  refine z_weq (w' := [_, zO _ [_, _, _]]) rfl ?_
  refine z_aload_n F dX9_init_14 rfl ?_
  refine z_iload_n F dX9_init_15 rfl ?_
  refine z_iload_n F dX9_init_16 rfl ?_
  refine z_imulN F dX9_init_17 ?_
  refine z_putF F zC9 (f := 2) rfl (Nat.le_of_ble_eq_true rfl) q381 rfl hin rfl (fun _ => rfl) (fun _ => rfl) (Nat.le_of_ble_eq_true rfl) dX9_init_18 ?_
  refine z_weq (w' := [_, zO _ [_, _, _]]) rfl ?_
  exact z_vret F E rfl dX9_init_21 (by omega) (by omega) (⟨rfl, rfl⟩)
theorem c_gthen (kd a b x s : Nat) (h : grok kd a b) (hx : x < a * b) (hs : s < a * b) : zCtr yX9_then cX9_then 7 (some .int) 0 0 0 [zr 1 0, zi (nI x), zi (nI s)] [zH, eGr kd a b] (fun r w => r = some (zi (nI (gth kd a b x s))) ∧ w = [zH, eGr kd a b]) zNx := by
  refine z_start (by decide) [some (zr 1 0), some (zi (nI x)), some (zi (nI s)), none, none, none, none] rfl (fun _ => Nat.le_of_ble_eq_true rfl) (fun _ => rfl) (fun X F E hno hin => ?_)
  obtain ⟨h1, h2, h3, h4, h5⟩ := h
  have ha : a ≤ 24 := Nat.le_trans (Nat.le_mul_of_pos_right a h3) h4
  have hb : b ≤ 24 := Nat.le_trans (Nat.le_mul_of_pos_left b h2) h4
  have hi : x % a < a := Nat.mod_lt _ h2
  have hj : s % a < a := Nat.mod_lt _ h2
  have hf := dm_lt hx
  have hg := dm_lt hs
  have hq : a * b / a = b := Nat.mul_div_cancel_left b h2
  have e0 : gth kd a b x s = gi kd a (x % a) (x / a) (s % a) + a * ((x / a + s / a) % b) := rfl
  have hd2 : kd = 1 → x / a < 2 ∧ s / a < 2 := fun q => by rw [h5 q] at hf hg; exact ⟨hf, hg⟩
  have z1 : 0 ≤ x / a := Nat.zero_le _
  have z2 : 0 ≤ s / a := Nat.zero_le _
  have z3 : 0 ≤ x % a := Nat.zero_le _
  have z4 : 0 ≤ s % a := Nat.zero_le _
  refine z_iload_n F dX9_then_0 rfl ?_
  refine z_aload_n F dX9_then_1 rfl ?_
  refine z_get F zC9 (f := 1) rfl (Nat.le_of_ble_eq_true rfl) q380 rfl dX9_then_2 ?_
  refine z_iremN F (by omega) (by omega) (by omega) dX9_then_5 ?_
  refine z_istore_n F dX9_then_6 (Nat.le_of_ble_eq_true rfl) ?_
  refine z_leq (L' := [_, _, _, _, _, _, _]) rfl ?_
  refine z_iload_n F dX9_then_7 rfl ?_
  refine z_aload_n F dX9_then_8 rfl ?_
  refine z_get F zC9 (f := 1) rfl (Nat.le_of_ble_eq_true rfl) q380 rfl dX9_then_9 ?_
  refine z_idivN F (by omega) (by omega) (by omega) dX9_then_12 ?_
  refine z_istore F dX9_then_13 (Nat.le_of_ble_eq_true rfl) ?_
  refine z_leq (L' := [_, _, _, _, _, _, _]) rfl ?_
  refine z_iload_n F dX9_then_15 rfl ?_
  refine z_aload_n F dX9_then_16 rfl ?_
  refine z_get F zC9 (f := 1) rfl (Nat.le_of_ble_eq_true rfl) q380 rfl dX9_then_17 ?_
  refine z_iremN F (by omega) (by omega) (by omega) dX9_then_20 ?_
  refine z_istore F dX9_then_21 (Nat.le_of_ble_eq_true rfl) ?_
  refine z_leq (L' := [_, _, _, _, _, _, _]) rfl ?_
  refine z_iload_n F dX9_then_23 rfl ?_
  refine z_aload_n F dX9_then_24 rfl ?_
  refine z_get F zC9 (f := 1) rfl (Nat.le_of_ble_eq_true rfl) q380 rfl dX9_then_25 ?_
  refine z_idivN F (by omega) (by omega) (by omega) dX9_then_28 ?_
  refine z_istore F dX9_then_29 (Nat.le_of_ble_eq_true rfl) ?_
  refine z_leq (L' := [_, _, _, _, _, _, _]) rfl ?_
  refine z_aload_n F dX9_then_31 rfl ?_
  refine z_get F zC9 (f := 0) rfl (Nat.le_of_ble_eq_true rfl) q379 rfl dX9_then_32 ?_
  refine z_iconst F (nI 1) dX9_then_35 rfl ?_
  refine z_icmp_neN F (by omega) (by omega) (tgt := 78) dX9_then_36 (by decide) (fun c_36 => ?_) (fun c_36 => ?_)
  · refine z_iload_n F dX9_then_78 rfl ?_
    refine z_iload F dX9_then_79 rfl ?_
    refine z_iaddN F dX9_then_81 ?_
    refine z_aload_n F dX9_then_82 rfl ?_
    refine z_get F zC9 (f := 1) rfl (Nat.le_of_ble_eq_true rfl) q380 rfl dX9_then_83 ?_
    refine z_iremN F (by omega) (by omega) (by omega) dX9_then_86 ?_
    refine z_aload_n F dX9_then_87 rfl ?_
    refine z_get F zC9 (f := 1) rfl (Nat.le_of_ble_eq_true rfl) q380 rfl dX9_then_88 ?_
    refine z_iload F dX9_then_91 rfl ?_
    refine z_iload F dX9_then_93 rfl ?_
    refine z_iaddN F dX9_then_95 ?_
    refine z_aload_n F dX9_then_96 rfl ?_
    refine z_get F zC9 (f := 2) rfl (Nat.le_of_ble_eq_true rfl) q381 rfl dX9_then_97 ?_
    refine z_aload_n F dX9_then_100 rfl ?_
    refine z_get F zC9 (f := 1) rfl (Nat.le_of_ble_eq_true rfl) q380 rfl dX9_then_101 ?_
    refine z_idivN F (by omega) (by omega) (by omega) dX9_then_104 ?_
    refine z_iremN F (by omega) (by omega) (by omega) dX9_then_105 ?_
    refine z_imulN F dX9_then_106 ?_
    refine z_iaddN F dX9_then_107 ?_
    exact z_iret F E rfl dX9_then_108 (by omega) (by omega) (⟨by rw [e0, gi, if_pos (show kd = 0 by omega), hq], rfl⟩)
  · obtain ⟨f2, g2⟩ := hd2 (by omega)
    refine z_iload F dX9_then_39 rfl ?_
    refine z_iconst F (nI 1) dX9_then_41 rfl ?_
    refine z_icmp_neN F (by omega) (by omega) (tgt := 57) dX9_then_42 (by decide) (fun c_42 => ?_) (fun c_42 => ?_)
    · refine z_iload_n F dX9_then_57 rfl ?_
      refine z_iload F dX9_then_58 rfl ?_
      refine z_iaddN F dX9_then_60 ?_
      refine z_aload_n F dX9_then_61 rfl ?_
      refine z_get F zC9 (f := 1) rfl (Nat.le_of_ble_eq_true rfl) q380 rfl dX9_then_62 ?_
      refine z_iremN F (by omega) (by omega) (by omega) dX9_then_65 ?_
      refine z_aload_n F dX9_then_66 rfl ?_
      refine z_get F zC9 (f := 1) rfl (Nat.le_of_ble_eq_true rfl) q380 rfl dX9_then_67 ?_
      refine z_iload F dX9_then_70 rfl ?_
      refine z_iload F dX9_then_72 rfl ?_
      refine z_ixor F dX9_then_74 ?_
      refine z_ieq (xor01 (by omega) (by omega)) ?_
      refine z_imulN F dX9_then_75 ?_
      refine z_iaddN F dX9_then_76 ?_
      exact z_iret F E rfl dX9_then_77 (by omega) (by omega) (⟨by rw [e0, gi, if_neg (show ¬ kd = 0 by omega), if_pos (show x / a = 0 by omega), h5 (by omega)], rfl⟩)
    · refine z_iload_n F dX9_then_45 rfl ?_
      refine z_iload F dX9_then_46 rfl ?_
      refine z_isub F dX9_then_48 ?_
      refine z_aload_n F dX9_then_49 rfl ?_
      refine z_get F zC9 (f := 1) rfl (Nat.le_of_ble_eq_true rfl) q380 rfl dX9_then_50 ?_
      refine z_iadd F dX9_then_53 ?_
      refine z_ieq (nI_sa (by omega)) ?_
      refine z_goto F (tgt := 61) dX9_then_54 (by decide) ?_
      refine z_aload_n F dX9_then_61 rfl ?_
      refine z_get F zC9 (f := 1) rfl (Nat.le_of_ble_eq_true rfl) q380 rfl dX9_then_62 ?_
      refine z_iremN F (by omega) (by omega) (by omega) dX9_then_65 ?_
      refine z_aload_n F dX9_then_66 rfl ?_
      refine z_get F zC9 (f := 1) rfl (Nat.le_of_ble_eq_true rfl) q380 rfl dX9_then_67 ?_
      refine z_iload F dX9_then_70 rfl ?_
      refine z_iload F dX9_then_72 rfl ?_
      refine z_ixor F dX9_then_74 ?_
      refine z_ieq (xor01 (by omega) (by omega)) ?_
      refine z_imulN F dX9_then_75 ?_
      refine z_iaddN F dX9_then_76 ?_
      exact z_iret F E rfl dX9_then_77 (by omega) (by omega) (⟨by rw [e0, gi, if_neg (show ¬ kd = 0 by omega), if_neg (show ¬ x / a = 0 by omega), h5 (by omega)], rfl⟩)
theorem c_gopp (kd a b s : Nat) (h : grok kd a b) (hs : s < a * b) : zCtr yX9_opposite cX9_opposite 3 (some .int) 1 0 0 [zr 1 0, zi (nI s)] [zH, eGr kd a b] (fun r w => r = some (zi (nI (gop kd a b s))) ∧ w = [zH, eGr kd a b]) zNx := by
  refine z_start (by decide) [some (zr 1 0), some (zi (nI s)), none] rfl (fun _ => Nat.le_of_ble_eq_true rfl) (fun _ => rfl) (fun X F E hno hin => ?_)
  have h4 := h.2.2.2.1
  have hol := gop_lt h hs
  have loop : ∀ (m o : Nat), gop kd a b s - o < m → o ≤ gop kd a b s → Z X [some (zr 1 0), some (zi (nI s)), some (zi (nI o))] [] [zH, eGr kd a b] 0 0 2 := by
    intro m
    induction m with
    | zero => intro o hm; omega
    | succ m ih =>
      intro o hm ho
      have hl := gth_lt (x := s) (s := o) h
      refine z_aload_n F dX9_opposite_2 rfl ?_
      refine z_iload_n F dX9_opposite_3 rfl ?_
      refine z_iload_n F dX9_opposite_4 rfl ?_
      refine z_callV F (c_gthen kd a b s o h hs (by omega)) 2 rfl (lw_V q404 q405 q406 q132 q407) (by decide +kernel) ⟨Nat.le_of_ble_eq_true rfl, Nat.le_of_ble_eq_true rfl⟩ ⟨by omega, by omega⟩ [0, 1] 2 ⟨rfl, rfl, rfl, ⟨Or.inl rfl, Or.inr rfl, trivial⟩⟩ (fun h => nomatch h) (Nat.le_of_ble_eq_true rfl) ⟨⟨Or.inr trivial, Or.inl rfl, trivial⟩, rfl, rfl, rfl, Nat.le_of_ble_eq_true rfl⟩ rfl zC9 rfl rfl dX9_opposite_5 (fun r_5 w_5 hp => ?_) (fun _ _ h => h.elim)
      obtain ⟨rfl, rfl⟩ := hp
      refine z_weq (w' := [zH, zO _ [zi _, zi _, zi _]]) rfl ?_
      refine z_seq (S' := zi _ :: _) rfl ?_
      refine z_if_eqN F (by omega) (tgt := 17) dX9_opposite_8 (by decide) (fun c_8 => ?_) (fun c_8 => ?_)
      · refine z_iload_n F dX9_opposite_17 rfl ?_
        exact z_iret F E rfl dX9_opposite_18 (by omega) (by omega) (⟨by rw [gth_opU h hs (by omega) c_8], rfl⟩)
      · have hne : o ≠ gop kd a b s := fun z => c_8 (by rw [z]; exact gth_op0 h hs)
        refine z_iincN F 1 dX9_opposite_11 rfl rfl ?_
        refine z_leq (L' := [_, _, _]) rfl ?_
        refine z_goto F (tgt := 2) dX9_opposite_14 (by decide) ?_
        exact ih (o + 1) (by omega) (by omega)
  refine z_iconst F (nI 0) dX9_opposite_0 rfl ?_
  refine z_istore_n F dX9_opposite_1 (Nat.le_of_ble_eq_true rfl) ?_
  refine z_leq (L' := [_, _, _]) rfl ?_
  exact loop _ 0 (Nat.lt_succ_self _) (Nat.zero_le _)
def amk (kd a b : Nat) (m : Int32) : Nat → Bool
  | 0 => true
  | s + 1 => amk kd a b m s && (!(decide (1 ≤ s) && bt m s) || bt m (gop kd a b s))
theorem amk_iff {kd a b : Nat} {m : Int32} : ∀ k, amk kd a b m k = true ↔ ∀ s, s < k → 1 ≤ s → bt m s = true → bt m (gop kd a b s) = true
  | 0 => ⟨fun _ s h => (by omega), fun _ => rfl⟩
  | k + 1 => by
    rw [amk, Bool.and_eq_true, amk_iff k]
    constructor
    · rintro ⟨h1, h2⟩ s hs h3 h4
      by_cases q : s = k
      · subst q
        rw [decide_eq_true h3, h4] at h2
        simpa using h2
      · exact h1 s (by omega) h3 h4
    · intro h
      refine ⟨fun s hs => h s (by omega), ?_⟩
      by_cases q : 1 ≤ k ∧ bt m k = true
      · rw [h k (by omega) q.1 q.2, Bool.or_true]
      · cases e : bt m k with
        | false => simp
        | true => rw [decide_eq_false (fun z => q ⟨z, e⟩)]; rfl
def amv (kd a b : Nat) (m : Int32) : Bool := !decide (m < 0) && (decide (m >>> (nI (a * b) &&& 31) = 0) && (!bt m 0 && (decide (pc32 m ≤ 8) && amk kd a b m (a * b))))
theorem amv_f {kd a b : Nat} {m : Int32} (h : m < 0 ∨ ¬ m >>> (nI (a * b) &&& 31) = 0 ∨ bt m 0 = true ∨ ¬ pc32 m ≤ 8 ∨ ∃ s, s < a * b ∧ 1 ≤ s ∧ bt m s = true ∧ bt m (gop kd a b s) = false) : amv kd a b m = false := by
  unfold amv
  rcases h with h | h | h | h | ⟨s, h1, h2, h3, h4⟩
  · rw [decide_eq_true h]; rfl
  · rw [decide_eq_false h]; simp
  · rw [h]; simp
  · rw [decide_eq_false h]; simp
  · have e : amk kd a b m (a * b) = false := by
      cases e : amk kd a b m (a * b) with
      | false => rfl
      | true => rw [(amk_iff _).mp e s h1 h2 h3] at h4; cases h4
    rw [e]; simp
theorem amv_t {kd a b : Nat} {m : Int32} : amv kd a b m = true ↔ ¬ m < 0 ∧ m >>> (nI (a * b) &&& 31) = 0 ∧ bt m 0 = false ∧ pc32 m ≤ 8 ∧ ∀ s, s < a * b → 1 ≤ s → bt m s = true → bt m (gop kd a b s) = true := by
  unfold amv
  rw [← amk_iff]
  simp only [Bool.and_eq_true, Bool.not_eq_true', decide_eq_true_eq, decide_eq_false_iff_not]
theorem c_gam (kd a b : Nat) (m : Int32) (h : grok kd a b) : zCtr yX9_areMoves cX9_areMoves 3 (some .boolean) 2 0 0 [zr 1 0, zi m] [zH, eGr kd a b] (fun r w => r = some (zi (bI (amv kd a b m))) ∧ w = [zH, eGr kd a b]) zNx := by
  refine z_start (by decide) [some (zr 1 0), some (zi m), none] rfl (fun _ => Nat.le_of_ble_eq_true rfl) (fun _ => rfl) (fun X F E hno hin => ?_)
  have h4 := h.2.2.2.1
  have hp8 := pc32_le m
  have loop : ¬ m < 0 → m >>> (nI (a * b) &&& 31) = 0 → bt m 0 = false → pc32 m ≤ 8 → ∀ (u s : Nat), a * b - s < u → 1 ≤ s → s ≤ a * b → (∀ t, t < s → 1 ≤ t → bt m t = true → bt m (gop kd a b t) = true) → Z X [some (zr 1 0), some (zi m), some (zi (nI s))] [] [zH, eGr kd a b] 0 0 33 := by
    intro q1 q2 q3 q4 u
    induction u with
    | zero => intro s hm; omega
    | succ u ih =>
      intro s hm h1 hs hc
      have hol : s < a * b → gop kd a b s < a * b := fun q => gop_lt h q
      refine z_iload_n F dX9_areMoves_33 rfl ?_
      refine z_aload_n F dX9_areMoves_34 rfl ?_
      refine z_get F zC9 (f := 2) rfl (Nat.le_of_ble_eq_true rfl) q381 rfl dX9_areMoves_35 ?_
      refine z_icmp_geN F (by omega) (by omega) (tgt := 70) dX9_areMoves_38 (by decide) (fun c_38 => ?_) (fun c_38 => ?_)
      · refine z_iconstB F true dX9_areMoves_70 rfl ?_
        exact z_zret F E rfl (bI_nar _) dX9_areMoves_71 (by omega) (by omega) (⟨by rw [amv_t.mpr ⟨q1, q2, q3, q4, fun t h2 => hc t (by omega)⟩], rfl⟩)
      · have hol := hol (by omega)
        refine z_iload_n F dX9_areMoves_41 rfl ?_
        refine z_iload_n F dX9_areMoves_42 rfl ?_
        refine z_ishr F dX9_areMoves_43 ?_
        refine z_iconst F (nI 1) dX9_areMoves_44 rfl ?_
        refine z_iandB F (by omega) dX9_areMoves_45 ?_
        refine z_iconst F (nI 1) dX9_areMoves_46 rfl ?_
        refine z_icmp_neB F (tgt := 64) dX9_areMoves_47 (by decide) (fun c_47 => ?_) (fun c_47 => ?_)
        · refine z_iincN F 1 dX9_areMoves_64 rfl rfl ?_
          refine z_leq (L' := [_, _, _]) rfl ?_
          refine z_goto F (tgt := 33) dX9_areMoves_67 (by decide) ?_
          exact ih (s + 1) (by omega) (by omega) (by omega) (fun t h2 h3 h4 => by
            by_cases e : t = s
            · subst e; rw [h4] at c_47; cases c_47
            · exact hc t (by omega) h3 h4)
        · refine z_iload_n F dX9_areMoves_50 rfl ?_
          refine z_aload_n F dX9_areMoves_51 rfl ?_
          refine z_iload_n F dX9_areMoves_52 rfl ?_
          refine z_callV F (c_gopp kd a b s h (by omega)) 1 rfl (lw_V q400 q401 q402 q132 q403) (by decide +kernel) ⟨Nat.le_of_ble_eq_true rfl, Nat.le_of_ble_eq_true rfl⟩ ⟨by omega, by omega⟩ [0, 1] 2 ⟨rfl, rfl, rfl, ⟨Or.inl rfl, Or.inr rfl, trivial⟩⟩ (fun h => nomatch h) (Nat.le_of_ble_eq_true rfl) ⟨⟨Or.inr trivial, Or.inl rfl, trivial⟩, rfl, rfl, rfl, Nat.le_of_ble_eq_true rfl⟩ rfl zC9 rfl rfl dX9_areMoves_53 (fun r_53 w_53 hp => ?_) (fun _ _ h => h.elim)
          obtain ⟨rfl, rfl⟩ := hp
          refine z_weq (w' := [zH, zO _ [zi _, zi _, zi _]]) rfl ?_
          refine z_seq (S' := zi _ :: _) rfl ?_
          refine z_ishr F dX9_areMoves_56 ?_
          refine z_iconst F (nI 1) dX9_areMoves_57 rfl ?_
          refine z_iandB F (by omega) dX9_areMoves_58 ?_
          refine z_if_neB F (tgt := 64) dX9_areMoves_59 (by decide) (fun c_59 => ?_) (fun c_59 => ?_)
          · refine z_iincN F 1 dX9_areMoves_64 rfl rfl ?_
            refine z_leq (L' := [_, _, _]) rfl ?_
            refine z_goto F (tgt := 33) dX9_areMoves_67 (by decide) ?_
            exact ih (s + 1) (by omega) (by omega) (by omega) (fun t h2 h3 h4 => by
              by_cases e : t = s
              · subst e; exact c_59
              · exact hc t (by omega) h3 h4)
          · refine z_iconstB F false dX9_areMoves_62 rfl ?_
            exact z_zret F E rfl (bI_nar _) dX9_areMoves_63 (by omega) (by omega) (⟨by rw [amv_f (Or.inr (Or.inr (Or.inr (Or.inr ⟨s, by omega, h1, c_47, c_59⟩))))], rfl⟩)
  refine z_iload_n F dX9_areMoves_0 rfl ?_
  refine z_if_lt F (tgt := 29) dX9_areMoves_1 (by decide) (fun c_1 => ?_) (fun c_1 => ?_)
  · refine z_iconstB F false dX9_areMoves_29 rfl ?_
    exact z_zret F E rfl (bI_nar _) dX9_areMoves_30 (by omega) (by omega) (⟨by rw [amv_f (Or.inl c_1)], rfl⟩)
  · refine z_iload_n F dX9_areMoves_4 rfl ?_
    refine z_aload_n F dX9_areMoves_5 rfl ?_
    refine z_get F zC9 (f := 2) rfl (Nat.le_of_ble_eq_true rfl) q381 rfl dX9_areMoves_6 ?_
    refine z_ishr F dX9_areMoves_9 ?_
    refine z_if_ne F (tgt := 29) dX9_areMoves_10 (by decide) (fun c_10 => ?_) (fun c_10 => ?_)
    · refine z_iconstB F false dX9_areMoves_29 rfl ?_
      exact z_zret F E rfl (bI_nar _) dX9_areMoves_30 (by omega) (by omega) (⟨by rw [amv_f (Or.inr (Or.inl c_10))], rfl⟩)
    · refine z_iload_n F dX9_areMoves_13 rfl ?_
      refine z_iconst F (nI 1) dX9_areMoves_14 rfl ?_
      refine z_iand F dX9_areMoves_15 ?_
      refine z_ieq (and1 m) ?_
      refine z_iconst F (nI 1) dX9_areMoves_16 rfl ?_
      refine z_icmp_eqB F (tgt := 29) dX9_areMoves_17 (by decide) (fun c_17 => ?_) (fun c_17 => ?_)
      · refine z_iconstB F false dX9_areMoves_29 rfl ?_
        exact z_zret F E rfl (bI_nar _) dX9_areMoves_30 (by omega) (by omega) (⟨by rw [amv_f (Or.inr (Or.inr (Or.inl c_17)))], rfl⟩)
      · refine z_iload_n F dX9_areMoves_20 rfl ?_
        refine z_callS F (c_bitCount m) 1 rfl (lw_S q394 q395 q123 q396) (by decide +kernel) ⟨Nat.le_of_ble_eq_true rfl, Nat.le_of_ble_eq_true rfl⟩ ⟨by omega, by omega⟩ [0] 2 ⟨rfl, rfl, rfl, ⟨Or.inl rfl, trivial⟩⟩ (fun h => nomatch h) (Nat.le_of_ble_eq_true rfl) ⟨⟨Or.inr trivial, Or.inr rfl, trivial⟩, rfl, rfl, rfl, Nat.le_of_ble_eq_true rfl⟩ rfl rfl dX9_areMoves_21 (fun r_21 w_21 hp => ?_) (fun _ _ h => h.elim)
        obtain ⟨rfl, rfl⟩ := hp
        refine z_weq (w' := [zH, zO _ [zi _, zi _, zi _]]) rfl ?_
        refine z_seq (S' := zi _ :: _) rfl ?_
        refine z_bipush F (nI 8) dX9_areMoves_24 rfl ?_
        refine z_icmp_leN F (by omega) (by omega) (tgt := 31) dX9_areMoves_26 (by decide) (fun c_26 => ?_) (fun c_26 => ?_)
        · refine z_iconst F (nI 1) dX9_areMoves_31 rfl ?_
          refine z_istore_n F dX9_areMoves_32 (Nat.le_of_ble_eq_true rfl) ?_
          refine z_leq (L' := [_, _, _]) rfl ?_
          exact loop c_1 c_10 c_17 c_26 (a * b + 1) 1 (by have := h.2.1; omega) (by omega) (Nat.mul_pos h.2.1 h.2.2.1) (fun t h2 h3 => absurd h2 (by omega))
        · refine z_iconstB F false dX9_areMoves_29 rfl ?_
          exact z_zret F E rfl (bI_nar _) dX9_areMoves_30 (by omega) (by omega) (⟨by rw [amv_f (Or.inr (Or.inr (Or.inr (Or.inl (Nat.not_le.mpr c_26)))))], rfl⟩)
def trr (kd a b : Nat) (m : Int32) (x : Nat) (f : Nat → Int32) : Nat → Nat → Int32
  | 0 => f
  | s + 1 => if 1 ≤ s ∧ bt m s = true then jn (trr kd a b m x f s) x (gth kd a b x s) else trr kd a b m x f s
def tra (kd a b : Nat) (m : Int32) : Nat → Nat → Int32
  | 0 => fun _ => nI 0
  | x + 1 => trr kd a b m x (tra kd a b m x) (a * b)
theorem c_gnet (kd a b : Nat) (m : Int32) (h : grok kd a b) : zCtr yX9_net cX9_net 5 (some (.object "WiredNets$Net")) 3 2 40 [zr 1 0, zi m] [zH, eGr kd a b] (fun r w => r = some (zr 2 0) ∧ w = [zH, eGr kd a b, eNet 3 (nI (a * b)) (nI (max 1 (pc32 m))), zAi 0 24 (tra kd a b m (a * b))]) zNx := by
  refine z_start (by decide) [some (zr 1 0), some (zi m), none, none, none] rfl (fun _ => Nat.le_of_ble_eq_true rfl) (fun _ => rfl) (fun X F E hno hin => ?_)
  have h4 := h.2.2.2.1
  have hp8 := pc32_le m
  have row : ∀ (x : Nat), x < a * b → (Z X [some (zr 1 0), some (zi m), some (zr 2 0), some (zi (nI (x + 1))), none] [] [zH, eGr kd a b, eNet 3 (nI (a * b)) (nI (max 1 (pc32 m))), zAi 0 24 (tra kd a b m (x + 1))] 2 40 22) →
      ∀ (u s : Nat), a * b - s < u → 1 ≤ s → s ≤ a * b → Z X [some (zr 1 0), some (zi m), some (zr 2 0), some (zi (nI x)), some (zi (nI s))] [] [zH, eGr kd a b, eNet 3 (nI (a * b)) (nI (max 1 (pc32 m))), zAi 0 24 (trr kd a b m x (tra kd a b m x) s)] 2 40 33 := by
    intro x hx kk u
    induction u with
    | zero => intro s hm; omega
    | succ u ih =>
      intro s hm h1 hs
      have hl := gth_lt (x := x) (s := s) h
      have i1 : s < a * b → _ := fun q => ih (s + 1) (by omega) (by omega) q
      refine z_iload F dX9_net_33 rfl ?_
      refine z_aload_n F dX9_net_35 rfl ?_
      refine z_get F zC9 (f := 2) rfl (Nat.le_of_ble_eq_true rfl) q381 rfl dX9_net_36 ?_
      refine z_icmp_geN F (by omega) (by omega) (tgt := 70) dX9_net_39 (by decide) (fun c_39 => ?_) (fun c_39 => ?_)
      · refine z_iincN F 1 dX9_net_70 rfl rfl ?_
        refine z_leq (L' := [_, _, _, _, _]) rfl ?_
        refine z_goto F (tgt := 22) dX9_net_73 (by decide) ?_
        rw [show s = a * b by omega]
        refine z_loc _ ?_ kk
        exact ⟨rfl, rfl, rfl, rfl, trivial⟩
      · refine z_iload_n F dX9_net_42 rfl ?_
        refine z_iload F dX9_net_43 rfl ?_
        refine z_ishr F dX9_net_45 ?_
        refine z_iconst F (nI 1) dX9_net_46 rfl ?_
        refine z_iandB F (by omega) dX9_net_47 ?_
        refine z_iconst F (nI 1) dX9_net_48 rfl ?_
        refine z_icmp_neB F (tgt := 64) dX9_net_49 (by decide) (fun c_49 => ?_) (fun c_49 => ?_)
        · refine z_iincN F 1 dX9_net_64 rfl rfl ?_
          refine z_leq (L' := [_, _, _, _, _]) rfl ?_
          refine z_goto F (tgt := 33) dX9_net_67 (by decide) ?_
          have i1 := i1 (by omega)
          rw [trr, if_neg (fun z => by rw [z.2] at c_49; cases c_49)] at i1
          exact i1
        · refine z_aload_n F dX9_net_52 rfl ?_
          refine z_iload_n F dX9_net_53 rfl ?_
          refine z_aload_n F dX9_net_54 rfl ?_
          refine z_iload_n F dX9_net_55 rfl ?_
          refine z_iload F dX9_net_56 rfl ?_
          refine z_callV F (c_gthen kd a b x s h hx (by omega)) 2 rfl (lw_V q404 q405 q406 q132 q407) (by decide +kernel) ⟨Nat.le_of_ble_eq_true rfl, Nat.le_of_ble_eq_true rfl⟩ ⟨by omega, by omega⟩ [0, 1] 4 ⟨rfl, rfl, rfl, ⟨Or.inl rfl, Or.inr rfl, trivial⟩⟩ (fun h => nomatch h) (Nat.le_of_ble_eq_true rfl) ⟨⟨Or.inr trivial, Or.inl rfl, Or.inr rfl, Or.inr trivial, trivial⟩, rfl, rfl, rfl, Nat.le_of_ble_eq_true rfl⟩ rfl zC9 rfl rfl dX9_net_58 (fun r_58 w_58 hp => ?_) (fun _ _ h => h.elim)
          obtain ⟨rfl, rfl⟩ := hp
          refine z_weq (w' := [zH, zO _ [zi _, zi _, zi _], zO _ [zi _, zi _, zr _ _], zAi 0 24 _]) rfl ?_
          refine z_seq (S' := zi _ :: _) rfl ?_
          refine z_callV F (c_setj (nI (a * b)) (nI (max 1 (pc32 m))) _ x (gth kd a b x s) (by omega) (by omega)) 2 rfl (lw_V q417 q418 q419 q116 q420) (by decide +kernel) ⟨Nat.le_of_ble_eq_true rfl, Nat.le_of_ble_eq_true rfl⟩ ⟨by omega, by omega⟩ [0, 2, 3] 4 ⟨rfl, rfl, rfl, ⟨Or.inl rfl, Or.inr rfl, Or.inr rfl, trivial⟩⟩ (fun h => nomatch h) (Nat.le_of_ble_eq_true rfl) ⟨⟨Or.inr trivial, Or.inr rfl, Or.inl rfl, Or.inl rfl, trivial⟩, rfl, rfl, rfl, Nat.le_of_ble_eq_true rfl⟩ rfl zC5 rfl rfl dX9_net_61 (fun r_61 w_61 hp => ?_) (fun _ _ h => h.elim)
          obtain ⟨rfl, rfl⟩ := hp
          refine z_weq (w' := [zH, zO _ [zi _, zi _, zi _], zO _ [zi _, zi _, zr _ _], zAi 0 24 _]) rfl ?_
          refine z_seq (S' := []) rfl ?_
          refine z_iincN F 1 dX9_net_64 rfl rfl ?_
          refine z_leq (L' := [_, _, _, _, _]) rfl ?_
          refine z_goto F (tgt := 33) dX9_net_67 (by decide) ?_
          have i1 := i1 (by omega)
          rw [trr, if_pos ⟨h1, c_49⟩] at i1
          exact i1
  have rows : ∀ (u x : Nat), a * b - x < u → x ≤ a * b → Z X [some (zr 1 0), some (zi m), some (zr 2 0), some (zi (nI x)), none] [] [zH, eGr kd a b, eNet 3 (nI (a * b)) (nI (max 1 (pc32 m))), zAi 0 24 (tra kd a b m x)] 2 40 22 := by
    intro u
    induction u with
    | zero => intro x hm; omega
    | succ u ih =>
      intro x hm hx
      refine z_iload_n F dX9_net_22 rfl ?_
      refine z_aload_n F dX9_net_23 rfl ?_
      refine z_get F zC9 (f := 2) rfl (Nat.le_of_ble_eq_true rfl) q381 rfl dX9_net_24 ?_
      refine z_icmp_geN F (by omega) (by omega) (tgt := 76) dX9_net_27 (by decide) (fun c_27 => ?_) (fun c_27 => ?_)
      · refine z_aload_n F dX9_net_76 rfl ?_
        exact z_aret F E rfl (Or.inl ⟨_, rfl⟩) dX9_net_77 (by omega) (by omega) (⟨rfl, by rw [show x = a * b by omega]⟩)
      · refine z_iconst F (nI 1) dX9_net_30 rfl ?_
        refine z_istore F dX9_net_31 (Nat.le_of_ble_eq_true rfl) ?_
        refine z_leq (L' := [_, _, _, _, _]) rfl ?_
        have r1 := row x (by omega) (ih (x + 1) (by omega) (by omega)) (a * b + 1) 1 (by omega) (by omega) (by omega)
        rw [trr, if_neg (by omega)] at r1
        exact r1
  refine z_new F 2 [zi 0, zi 0, zn] zC5 q412 q232 q116 (fun _ j hj => by match j, hj with | 0, _ => rfl | 1, _ => rfl | 2, _ => rfl) rfl (Nat.le_of_ble_eq_true rfl) (Nat.le_of_ble_eq_true rfl) ⟨trivial, rfl, trivial⟩ rfl rfl ⟨by omega, by omega⟩ dX9_net_0 ?_
  refine z_weq (w' := [_, _, _]) rfl ?_
  refine z_dup F dX9_net_3 rfl ?_
  refine z_aload_n F dX9_net_4 rfl ?_
  refine z_get F zC9 (f := 2) rfl (Nat.le_of_ble_eq_true rfl) q381 rfl dX9_net_5 ?_
  refine z_iconst F (nI 1) dX9_net_8 rfl ?_
  refine z_iload_n F dX9_net_9 rfl ?_
  refine z_callS F (c_bitCount m) 1 rfl (lw_S q394 q395 q123 q396) (by decide +kernel) ⟨Nat.le_of_ble_eq_true rfl, Nat.le_of_ble_eq_true rfl⟩ ⟨by omega, by omega⟩ [0] 3 ⟨rfl, rfl, rfl, ⟨Or.inl rfl, trivial⟩⟩ (fun h => nomatch h) (Nat.le_of_ble_eq_true rfl) ⟨⟨Or.inr trivial, Or.inr rfl, Or.inr rfl, trivial⟩, rfl, rfl, rfl, Nat.le_of_ble_eq_true rfl⟩ rfl rfl dX9_net_10 (fun r_10 w_10 hp => ?_) (fun _ _ h => h.elim)
  obtain ⟨rfl, rfl⟩ := hp
  refine z_weq (w' := [zH, zO _ [zi _, zi _, zi _], zO _ [zi _, zi _, zn]]) rfl ?_
  refine z_seq (S' := zi _ :: _) rfl ?_
  refine z_mmax F q413 dX9_net_13 (Nat.le_of_ble_eq_true rfl) rfl (Nat.le_of_ble_eq_true rfl) ⟨by omega, by omega⟩ ?_
  refine z_ieq (mmaxN (by omega) (by omega)) ?_
  refine z_callI F (c_netInit (nI (a * b)) (nI (max 1 (pc32 m)))) 2 rfl (lw_meth q235) q116 q416 q234 rfl (by decide +kernel) ⟨Nat.le_of_ble_eq_true rfl, Nat.le_of_ble_eq_true rfl⟩ ⟨by omega, by omega⟩ [0, 2] 3 ⟨rfl, rfl, rfl, ⟨Or.inl rfl, Or.inr rfl, trivial⟩⟩ (fun h => nomatch h) (Nat.le_of_ble_eq_true rfl) ⟨⟨Or.inr trivial, Or.inr rfl, Or.inl rfl, trivial⟩, rfl, rfl, rfl, Nat.le_of_ble_eq_true rfl⟩ rfl rfl dX9_net_16 (fun r_16 w_16 hp => ?_) (fun _ _ h => h.elim)
  obtain ⟨rfl, rfl⟩ := hp
  refine z_weq (w' := [zH, zO _ [zi _, zi _, zi _], zO _ [zi _, zi _, zr _ _], zAi 0 24 _]) rfl ?_
  refine z_seq (S' := [_]) rfl ?_
  refine z_astore_n F dX9_net_19 (Nat.le_of_ble_eq_true rfl) ?_
  refine z_leq (L' := [_, _, _, _, _]) rfl ?_
  refine z_iconst F (nI 0) dX9_net_20 rfl ?_
  refine z_istore_n F dX9_net_21 (Nat.le_of_ble_eq_true rfl) ?_
  refine z_leq (L' := [_, _, _, _, _]) rfl ?_
  refine z_widen (k' := 2) (n' := 40) (by omega) (by omega) ?_
  exact rows (a * b + 1) 0 (by omega) (by omega)
end C95
