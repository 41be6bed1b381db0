/-! Net: what is asked of it -/
section C44
theorem c_in (v a b : Int32) : zCtr yX1_in cX1_in 3 (some .boolean) 0 0 0 [zi v, zi a, zi b] [zH] (fun r w => r = some (zi (bI (inB v a b))) ∧ w = [zH]) zNx := by
  refine z_start (by decide) [some (zi v), some (zi a), some (zi b)] rfl (fun _ => Nat.le_of_ble_eq_true rfl) (fun _ => rfl) (fun X F E hno hin => ?_)
  refine z_iload_n F dX1_in_0 rfl ?_
  refine z_iload_n F dX1_in_1 rfl ?_
  refine z_icmp_lt F (tgt := 14) dX1_in_2 (by decide) (fun c_2 => ?_) (fun c_2 => ?_)
  · refine z_iconstB F false dX1_in_14 rfl ?_
    exact z_zret F E rfl (bI_nar _) dX1_in_15 (by omega) (by omega) (⟨by unfold inB; first | (rw [decide_eq_true ⟨c_2, c_7⟩]; done) | (rw [decide_eq_false (fun z => z.1 c_2)]; done) | (rw [decide_eq_false (fun z => z.2 c_7)]; done), rfl⟩)
  · refine z_iload_n F dX1_in_5 rfl ?_
    refine z_iload_n F dX1_in_6 rfl ?_
    refine z_icmp_gt F (tgt := 14) dX1_in_7 (by decide) (fun c_7 => ?_) (fun c_7 => ?_)
    · refine z_iconstB F false dX1_in_14 rfl ?_
      exact z_zret F E rfl (bI_nar _) dX1_in_15 (by omega) (by omega) (⟨by unfold inB; first | (rw [decide_eq_true ⟨c_2, c_7⟩]; done) | (rw [decide_eq_false (fun z => z.1 c_2)]; done) | (rw [decide_eq_false (fun z => z.2 c_7)]; done), rfl⟩)
    · refine z_iconstB F true dX1_in_10 rfl ?_
      refine z_goto F (tgt := 15) dX1_in_11 (by decide) ?_
      exact z_zret F E rfl (bI_nar _) dX1_in_15 (by omega) (by omega) (⟨by unfold inB; first | (rw [decide_eq_true ⟨c_2, c_7⟩]; done) | (rw [decide_eq_false (fun z => z.1 c_2)]; done) | (rw [decide_eq_false (fun z => z.2 c_7)]; done), rfl⟩)
theorem c_netInit (n d : Int32) : zCtr yX5_init cX5_init 3 none 2 1 24 [zr 1 0, zi n, zi d] [zH, zO 5 [zi 0, zi 0, zn]] (fun r w => r = none ∧ w = [zH, eNet 2 n d, zAi 0 24 (fun _ => 0)]) zNx := by
  refine z_start (by decide) [some (zr 1 0), some (zi n), some (zi d)] rfl (fun _ => Nat.le_of_ble_eq_true rfl) (fun _ => rfl) (fun X F E hno hin => ?_)
  refine z_aload_n F dX5_init_0 rfl ?_
  refine z_objInit F q236 q149 q150 dX5_init_1 (Nat.le_of_ble_eq_true rfl) rfl (Nat.le_of_ble_eq_true rfl) ?_
  refine z_aload_n F dX5_init_4 rfl ?_
  refine z_bipush F (nI 24) dX5_init_5 rfl ?_
  refine z_newaI F _ 2 q174 (nI_pos (by omega)) (zcl_n (by omega)) (by omega) rfl (Nat.le_of_ble_eq_true rfl) ⟨trivial, rfl, trivial⟩ rfl rfl ⟨by omega, by omega⟩ dX5_init_7 ?_
  refine z_weq (w' := [_, _, _]) rfl ?_
  refine z_putF F zC5 (f := 2) rfl (Nat.le_of_ble_eq_true rfl) q249 rfl hin rfl (fun _ => rfl) (fun _ => rfl) (Nat.le_of_ble_eq_true rfl) dX5_init_9 ?_
  refine z_weq (w' := [_, zO _ [_, _, _], _]) rfl ?_
  refine z_aload_n F dX5_init_12 rfl ?_
  refine z_iload_n F dX5_init_13 rfl ?_
  refine z_put F zC5 (f := 0) rfl (Nat.le_of_ble_eq_true rfl) q237 rfl (fun _ => rfl) (fun _ => rfl) (Nat.le_of_ble_eq_true rfl) dX5_init_14 ?_
  refine z_weq (w' := [_, zO _ [_, _, _], _]) rfl ?_
  refine z_aload_n F dX5_init_17 rfl ?_
  refine z_iload_n F dX5_init_18 rfl ?_
  refine z_put F zC5 (f := 1) rfl (Nat.le_of_ble_eq_true rfl) q247 rfl (fun _ => rfl) (fun _ => rfl) (Nat.le_of_ble_eq_true rfl) dX5_init_19 ?_
  refine z_weq (w' := [_, zO _ [_, _, _], _]) rfl ?_
  exact z_vret F E rfl dX5_init_22 (by omega) (by omega) (⟨rfl, rfl⟩)
theorem c_can (n d : Int32) : zCtr yX5_can cX5_can 2 (some .boolean) 1 0 0 [zi n, zi d] [zH] (fun r w => r = some (zi (bI (inB n (nI 1) (nI 24) && inB d (nI 1) (nI 8)))) ∧ w = [zH]) zNx := by
  refine z_start (by decide) [some (zi n), some (zi d)] rfl (fun _ => Nat.le_of_ble_eq_true rfl) (fun _ => rfl) (fun X F E hno hin => ?_)
  refine z_iload_n F dX5_can_0 rfl ?_
  refine z_iconst F (nI 1) dX5_can_1 rfl ?_
  refine z_bipush F (nI 24) dX5_can_2 rfl ?_
  refine z_callSN F (c_in n (nI 1) (nI 24)) 3 rfl (lw_meth q351) q109 q355 q350 (by decide +kernel) ⟨Nat.le_of_ble_eq_true rfl, Nat.le_of_ble_eq_true rfl⟩ ⟨by omega, by omega⟩ [0] 1 ⟨rfl, rfl, rfl, ⟨Or.inl rfl, trivial⟩⟩ (fun h => nomatch h) (Nat.le_of_ble_eq_true rfl) ⟨⟨Or.inr trivial, trivial⟩, rfl, rfl, rfl, Nat.le_of_ble_eq_true rfl⟩ rfl rfl dX5_can_4 (fun r_4 w_4 hp => ?_) (fun _ _ h => h.elim)
  obtain ⟨rfl, rfl⟩ := hp
  refine z_weq (w' := [zH]) rfl ?_
  refine z_seq (S' := zi _ :: _) rfl ?_
  refine z_if_eqB F (tgt := 24) dX5_can_7 (by decide) (fun c_7 => ?_) (fun c_7 => ?_)
  · refine z_iconstB F false dX5_can_24 rfl ?_
    exact z_zret F E rfl rfl dX5_can_25 (by omega) (by omega) (⟨by first | (rw [c_7, c_17]; rfl) | (rw [c_7]; rfl), rfl⟩)
  · refine z_iload_n F dX5_can_10 rfl ?_
    refine z_iconst F (nI 1) dX5_can_11 rfl ?_
    refine z_bipush F (nI 8) dX5_can_12 rfl ?_
    refine z_callSN F (c_in d (nI 1) (nI 8)) 3 rfl (lw_meth q351) q109 q355 q350 (by decide +kernel) ⟨Nat.le_of_ble_eq_true rfl, Nat.le_of_ble_eq_true rfl⟩ ⟨by omega, by omega⟩ [0] 1 ⟨rfl, rfl, rfl, ⟨Or.inl rfl, trivial⟩⟩ (fun h => nomatch h) (Nat.le_of_ble_eq_true rfl) ⟨⟨Or.inr trivial, trivial⟩, rfl, rfl, rfl, Nat.le_of_ble_eq_true rfl⟩ rfl rfl dX5_can_14 (fun r_14 w_14 hp => ?_) (fun _ _ h => h.elim)
    obtain ⟨rfl, rfl⟩ := hp
    refine z_weq (w' := [zH]) rfl ?_
    refine z_seq (S' := zi _ :: _) rfl ?_
    refine z_if_eqB F (tgt := 24) dX5_can_17 (by decide) (fun c_17 => ?_) (fun c_17 => ?_)
    · refine z_iconstB F false dX5_can_24 rfl ?_
      exact z_zret F E rfl rfl dX5_can_25 (by omega) (by omega) (⟨by first | (rw [c_7, c_17]; rfl) | (rw [c_7]; rfl), rfl⟩)
    · refine z_iconstB F true dX5_can_20 rfl ?_
      refine z_goto F (tgt := 25) dX5_can_21 (by decide) ?_
      exact z_zret F E rfl rfl dX5_can_25 (by omega) (by omega) (⟨by first | (rw [c_7, c_17]; rfl) | (rw [c_7]; rfl), rfl⟩)
theorem c_clear (n d : Int32) (f : Nat → Int32) (a b : Nat) (ha : a < 24) (hb : b < 24) : zCtr yX5_clear cX5_clear 3 none 0 0 0 [zr 1 0, zi (nI a), zi (nI b)] [zH, eNet 2 n d, zAi 0 24 f] (fun r w => r = none ∧ w = [zH, eNet 2 n d, zAi 0 24 (pt f a b)]) zNx := by
  refine z_start (by decide) [some (zr 1 0), some (zi (nI a)), some (zi (nI b))] rfl (fun _ => Nat.le_of_ble_eq_true rfl) (fun _ => rfl) (fun X F E hno hin => ?_)
  refine z_aload_n F dX5_clear_0 rfl ?_
  refine z_get F zC5 (f := 2) rfl (Nat.le_of_ble_eq_true rfl) q249 rfl dX5_clear_1 ?_
  refine z_iload_n F dX5_clear_4 rfl ?_
  refine z_dup2 F dX5_clear_5 rfl rfl ?_
  refine z_ialdN F rfl (Nat.le_of_ble_eq_true rfl) (by omega) rfl dX5_clear_6 ?_
  refine z_iconst F (nI 1) dX5_clear_7 rfl ?_
  refine z_iload_n F dX5_clear_8 rfl ?_
  refine z_ishlB F dX5_clear_9 ?_
  refine z_iconst F (-1) dX5_clear_10 rfl ?_
  refine z_ixor F dX5_clear_11 ?_
  refine z_iand F dX5_clear_12 ?_
  refine z_iastN F rfl (Nat.le_of_ble_eq_true rfl) (by omega) dX5_clear_13 ?_
  refine z_weq (w' := [_, _, _]) rfl ?_
  refine z_aload_n F dX5_clear_14 rfl ?_
  refine z_get F zC5 (f := 2) rfl (Nat.le_of_ble_eq_true rfl) q249 rfl dX5_clear_15 ?_
  refine z_iload_n F dX5_clear_18 rfl ?_
  refine z_dup2 F dX5_clear_19 rfl rfl ?_
  refine z_ialdN F rfl (Nat.le_of_ble_eq_true rfl) (by omega) rfl dX5_clear_20 ?_
  refine z_iconst F (nI 1) dX5_clear_21 rfl ?_
  refine z_iload_n F dX5_clear_22 rfl ?_
  refine z_ishlB F dX5_clear_23 ?_
  refine z_iconst F (-1) dX5_clear_24 rfl ?_
  refine z_ixor F dX5_clear_25 ?_
  refine z_iand F dX5_clear_26 ?_
  refine z_iastN F rfl (Nat.le_of_ble_eq_true rfl) (by omega) dX5_clear_27 ?_
  refine z_weq (w' := [_, _, _]) rfl ?_
  exact z_vret F E rfl dX5_clear_28 (by omega) (by omega) (⟨rfl, rfl⟩)
theorem c_lines (n d : Int32) (f : Nat → Int32) (a : Nat) (ha : a < 24) : zCtr yX5_lines cX5_lines 2 (some .int) 1 0 0 [zr 1 0, zi (nI a)] [zH, eNet 2 n d, zAi 0 24 f] (fun r w => r = some (zi (nI (pc32 (f a)))) ∧ w = [zH, eNet 2 n d, zAi 0 24 f]) zNx := by
  refine z_start (by decide) [some (zr 1 0), some (zi (nI a))] rfl (fun _ => Nat.le_of_ble_eq_true rfl) (fun _ => rfl) (fun X F E hno hin => ?_)
  refine z_aload_n F dX5_lines_0 rfl ?_
  refine z_get F zC5 (f := 2) rfl (Nat.le_of_ble_eq_true rfl) q249 rfl dX5_lines_1 ?_
  refine z_iload_n F dX5_lines_4 rfl ?_
  refine z_ialdN F rfl (Nat.le_of_ble_eq_true rfl) (by omega) rfl dX5_lines_5 ?_
  refine z_callS F (c_bitCount (f a)) 1 rfl (lw_S q515 q395 q123 q396) (by decide +kernel) ⟨Nat.le_of_ble_eq_true rfl, Nat.le_of_ble_eq_true rfl⟩ ⟨by omega, by omega⟩ [0] 3 ⟨rfl, rfl, rfl, ⟨Or.inl rfl, trivial⟩⟩ (fun h => nomatch h) (Nat.le_of_ble_eq_true rfl) ⟨⟨Or.inr trivial, Or.inr rfl, Or.inr trivial, trivial⟩, rfl, rfl, rfl, Nat.le_of_ble_eq_true rfl⟩ rfl rfl dX5_lines_6 (fun r_6 w_6 hp => ?_) (fun _ _ h => h.elim)
  obtain ⟨rfl, rfl⟩ := hp
  refine z_weq (w' := [zH, zO _ [zi _, zi _, zr _ _], zAi 0 24 _]) rfl ?_
  refine z_seq (S' := zi _ :: _) rfl ?_
  exact z_iret F E rfl dX5_lines_9 (by omega) (by omega) (⟨rfl, rfl⟩)
theorem c_mayJoin (n : Int32) (d : Nat) (f : Nat → Int32) (a b : Nat) (ha : a < 24) (hb : b < 24) (hd : d < 9) : zCtr yX5_mayJoin cX5_mayJoin 3 (some .boolean) 2 0 0 [zr 1 0, zi (nI a), zi (nI b)] [zH, eNet 2 n (nI d), zAi 0 24 f] (fun r w => r = some (zi (bI (mayJ f d a b))) ∧ w = [zH, eNet 2 n (nI d), zAi 0 24 f]) zNx := by
  refine z_start (by decide) [some (zr 1 0), some (zi (nI a)), some (zi (nI b))] rfl (fun _ => Nat.le_of_ble_eq_true rfl) (fun _ => rfl) (fun X F E hno hin => ?_)
  have p1 := pc32_le (f a)
  have p2 := pc32_le (f b)
  refine z_iload_n F dX5_mayJoin_0 rfl ?_
  refine z_iload_n F dX5_mayJoin_1 rfl ?_
  refine z_icmp_eqN F (by omega) (by omega) (tgt := 42) dX5_mayJoin_2 (by decide) (fun c_2 => ?_) (fun c_2 => ?_)
  · have hm : mayJ f d a b = false := by
      unfold mayJ
      first | (simp [c_2]; done) | (simp [c_11]; done) | (simp [Nat.not_lt.mpr c_23]; done) | (simp [Nat.not_lt.mpr c_35]; done)
    refine z_iconstB F false dX5_mayJoin_42 rfl ?_
    exact z_zret F E rfl rfl dX5_mayJoin_43 (by omega) (by omega) (⟨by rw [hm], rfl⟩)
  · refine z_aload_n F dX5_mayJoin_5 rfl ?_
    refine z_iload_n F dX5_mayJoin_6 rfl ?_
    refine z_iload_n F dX5_mayJoin_7 rfl ?_
    refine z_callV F (c_has n (nI d) f a b ha hb) 2 rfl (lw_V q507 q508 q509 q116 q510) (by decide +kernel) ⟨Nat.le_of_ble_eq_true rfl, Nat.le_of_ble_eq_true rfl⟩ ⟨by omega, by omega⟩ [0, 1, 2] 3 ⟨rfl, rfl, rfl, ⟨Or.inl rfl, Or.inr rfl, Or.inr rfl, trivial⟩⟩ (fun h => nomatch h) (Nat.le_of_ble_eq_true rfl) ⟨⟨Or.inr trivial, Or.inl rfl, Or.inl rfl, trivial⟩, rfl, rfl, rfl, Nat.le_of_ble_eq_true rfl⟩ rfl zC5 rfl rfl dX5_mayJoin_8 (fun r_8 w_8 hp => ?_) (fun _ _ h => h.elim)
    obtain ⟨rfl, rfl⟩ := hp
    refine z_weq (w' := [zH, zO _ [zi _, zi _, zr _ _], zAi 0 24 _]) rfl ?_
    refine z_seq (S' := zi _ :: _) rfl ?_
    refine z_if_neB F (tgt := 42) dX5_mayJoin_11 (by decide) (fun c_11 => ?_) (fun c_11 => ?_)
    · have hm : mayJ f d a b = false := by
        unfold mayJ
        first | (simp [c_2]; done) | (simp [c_11]; done) | (simp [Nat.not_lt.mpr c_23]; done) | (simp [Nat.not_lt.mpr c_35]; done)
      refine z_iconstB F false dX5_mayJoin_42 rfl ?_
      exact z_zret F E rfl rfl dX5_mayJoin_43 (by omega) (by omega) (⟨by rw [hm], rfl⟩)
    · refine z_aload_n F dX5_mayJoin_14 rfl ?_
      refine z_iload_n F dX5_mayJoin_15 rfl ?_
      refine z_callV F (c_lines n (nI d) f a ha) 1 rfl (lw_V q511 q512 q513 q116 q514) (by decide +kernel) ⟨Nat.le_of_ble_eq_true rfl, Nat.le_of_ble_eq_true rfl⟩ ⟨by omega, by omega⟩ [0, 1, 2] 3 ⟨rfl, rfl, rfl, ⟨Or.inl rfl, Or.inr rfl, Or.inr rfl, trivial⟩⟩ (fun h => nomatch h) (Nat.le_of_ble_eq_true rfl) ⟨⟨Or.inr trivial, Or.inl rfl, Or.inl rfl, trivial⟩, rfl, rfl, rfl, Nat.le_of_ble_eq_true rfl⟩ rfl zC5 rfl rfl dX5_mayJoin_16 (fun r_16 w_16 hp => ?_) (fun _ _ h => h.elim)
      obtain ⟨rfl, rfl⟩ := hp
      refine z_weq (w' := [zH, zO _ [zi _, zi _, zr _ _], zAi 0 24 _]) rfl ?_
      refine z_seq (S' := zi _ :: _) rfl ?_
      refine z_aload_n F dX5_mayJoin_19 rfl ?_
      refine z_get F zC5 (f := 1) rfl (Nat.le_of_ble_eq_true rfl) q247 rfl dX5_mayJoin_20 ?_
      refine z_icmp_geN F (by omega) (by omega) (tgt := 42) dX5_mayJoin_23 (by decide) (fun c_23 => ?_) (fun c_23 => ?_)
      · have hm : mayJ f d a b = false := by
          unfold mayJ
          first | (simp [c_2]; done) | (simp [c_11]; done) | (simp [Nat.not_lt.mpr c_23]; done) | (simp [Nat.not_lt.mpr c_35]; done)
        refine z_iconstB F false dX5_mayJoin_42 rfl ?_
        exact z_zret F E rfl rfl dX5_mayJoin_43 (by omega) (by omega) (⟨by rw [hm], rfl⟩)
      · refine z_aload_n F dX5_mayJoin_26 rfl ?_
        refine z_iload_n F dX5_mayJoin_27 rfl ?_
        refine z_callV F (c_lines n (nI d) f b hb) 1 rfl (lw_V q511 q512 q513 q116 q514) (by decide +kernel) ⟨Nat.le_of_ble_eq_true rfl, Nat.le_of_ble_eq_true rfl⟩ ⟨by omega, by omega⟩ [0, 1, 2] 3 ⟨rfl, rfl, rfl, ⟨Or.inl rfl, Or.inr rfl, Or.inr rfl, trivial⟩⟩ (fun h => nomatch h) (Nat.le_of_ble_eq_true rfl) ⟨⟨Or.inr trivial, Or.inl rfl, Or.inl rfl, trivial⟩, rfl, rfl, rfl, Nat.le_of_ble_eq_true rfl⟩ rfl zC5 rfl rfl dX5_mayJoin_28 (fun r_28 w_28 hp => ?_) (fun _ _ h => h.elim)
        obtain ⟨rfl, rfl⟩ := hp
        refine z_weq (w' := [zH, zO _ [zi _, zi _, zr _ _], zAi 0 24 _]) rfl ?_
        refine z_seq (S' := zi _ :: _) rfl ?_
        refine z_aload_n F dX5_mayJoin_31 rfl ?_
        refine z_get F zC5 (f := 1) rfl (Nat.le_of_ble_eq_true rfl) q247 rfl dX5_mayJoin_32 ?_
        refine z_icmp_geN F (by omega) (by omega) (tgt := 42) dX5_mayJoin_35 (by decide) (fun c_35 => ?_) (fun c_35 => ?_)
        · have hm : mayJ f d a b = false := by
            unfold mayJ
            first | (simp [c_2]; done) | (simp [c_11]; done) | (simp [Nat.not_lt.mpr c_23]; done) | (simp [Nat.not_lt.mpr c_35]; done)
          refine z_iconstB F false dX5_mayJoin_42 rfl ?_
          exact z_zret F E rfl rfl dX5_mayJoin_43 (by omega) (by omega) (⟨by rw [hm], rfl⟩)
        · have hm : mayJ f d a b = true := by
            unfold mayJ
            simp [c_2, c_11, c_23, c_35]
          refine z_iconstB F true dX5_mayJoin_38 rfl ?_
          refine z_goto F (tgt := 43) dX5_mayJoin_39 (by decide) ?_
          exact z_zret F E rfl rfl dX5_mayJoin_43 (by omega) (by omega) (⟨by rw [hm], rfl⟩)
theorem c_netCount (n : Nat) (d : Int32) (f : Nat → Int32) (hn : n ≤ 24) : zCtr yX5_count cX5_count 3 (some .int) 2 0 0 [zr 1 0] [zH, eNet 2 (nI n) d, zAi 0 24 f] (fun r w => r = some (zi (nI (fb_sm (fun k => pc32 (f k)) n / 2))) ∧ w = [zH, eNet 2 (nI n) d, zAi 0 24 f]) zNx := by
  refine z_start (by decide) [some (zr 1 0), none, none] rfl (fun _ => Nat.le_of_ble_eq_true rfl) (fun _ => rfl) (fun X F E hno hin => ?_)
  have loop : ∀ (m k : Nat), n - k < m → k ≤ n → Z X [some (zr 1 0), some (zi (nI (fb_sm (fun k => pc32 (f k)) k))), some (zi (nI k))] [] [zH, eNet 2 (nI n) d, zAi 0 24 f] 0 0 4 := by
    intro m
    induction m with
    | zero => intro k hm; omega
    | succ m ih =>
      intro k hm hk
      have hb := fb_sm_bound (f := fun k => pc32 (f k)) (c := 32) (n := k) (fun k _ => pc32_le _)
      refine z_iload_n F dX5_count_4 rfl ?_
      refine z_aload_n F dX5_count_5 rfl ?_
      refine z_get F zC5 (f := 0) rfl (Nat.le_of_ble_eq_true rfl) q237 rfl dX5_count_6 ?_
      refine z_icmp_geN F (by omega) (by omega) (tgt := 26) dX5_count_9 (by decide) (fun c_9 => ?_) (fun c_9 => ?_)
      · have ek : k = n := by omega
        subst ek
        refine z_iload_n F dX5_count_26 rfl ?_
        refine z_iconst F (nI 2) dX5_count_27 rfl ?_
        refine z_idivN F (by omega) (by omega) (by omega) dX5_count_28 ?_
        exact z_iret F E rfl dX5_count_29 (by omega) (by omega) (⟨rfl, rfl⟩)
      · refine z_iload_n F dX5_count_12 rfl ?_
        refine z_aload_n F dX5_count_13 rfl ?_
        refine z_iload_n F dX5_count_14 rfl ?_
        refine z_callV F (c_lines (nI n) d f k (by omega)) 1 rfl (lw_V q511 q512 q513 q116 q514) (by decide +kernel) ⟨Nat.le_of_ble_eq_true rfl, Nat.le_of_ble_eq_true rfl⟩ ⟨by omega, by omega⟩ [0, 1, 2] 3 ⟨rfl, rfl, rfl, ⟨Or.inl rfl, Or.inr rfl, Or.inr rfl, trivial⟩⟩ (fun h => nomatch h) (Nat.le_of_ble_eq_true rfl) ⟨⟨Or.inr trivial, Or.inl rfl, Or.inl rfl, trivial⟩, rfl, rfl, rfl, Nat.le_of_ble_eq_true rfl⟩ rfl zC5 rfl rfl dX5_count_15 (fun r_15 w_15 hp => ?_) (fun _ _ h => h.elim)
        obtain ⟨rfl, rfl⟩ := hp
        refine z_weq (w' := [zH, zO _ [zi _, zi _, zr _ _], zAi 0 24 _]) rfl ?_
        refine z_seq (S' := zi _ :: _) rfl ?_
        refine z_iaddN F dX5_count_18 ?_
        refine z_istore_n F dX5_count_19 (Nat.le_of_ble_eq_true rfl) ?_
        refine z_leq (L' := [_, _, _]) rfl ?_
        refine z_iincN F 1 dX5_count_20 rfl rfl ?_
        refine z_leq (L' := [_, _, _]) rfl ?_
        refine z_goto F (tgt := 4) dX5_count_23 (by decide) ?_
        exact ih (k + 1) (by omega) (by omega)
  refine z_iconst F (nI 0) dX5_count_0 rfl ?_
  refine z_istore_n F dX5_count_1 (Nat.le_of_ble_eq_true rfl) ?_
  refine z_leq (L' := [_, _, _]) rfl ?_
  refine z_iconst F (nI 0) dX5_count_2 rfl ?_
  refine z_istore_n F dX5_count_3 (Nat.le_of_ble_eq_true rfl) ?_
  refine z_leq (L' := [_, _, _]) rfl ?_
  exact loop _ 0 (Nat.lt_succ_self _) (by omega)
theorem c_tellRow (n : Nat) (d : Int32) (f r0 : Nat → Int32) (N : Nat) (hn : n ≤ 24) (hN : (prs n f).length ≤ N) (hN2 : N < 2 ^ 31) : zCtr yX5_tellRow cX5_tellRow 5 none 1 0 0 [zr 1 0, zr 3 0] [zH, eNet 2 (nI n) d, zAi 0 24 f, zAi 0 N r0] (fun r w => r = none ∧ w = [zH, eNet 2 (nI n) d, zAi 0 24 f, zAi 0 N (rowA (prs n f) r0)]) zNx := by
  refine z_start (by decide) [some (zr 1 0), some (zr 3 0), none, none, none] rfl (fun _ => Nat.le_of_ble_eq_true rfl) (fun _ => rfl) (fun X F E hno hin => ?_)
  have hle := prs_276 n f hn
  have inner : ∀ (a : Nat), a < n → ∀ (m b : Nat) (l : List (Nat × Nat)), l = pas n f a ++ pbs f a b → l.length ≤ 576 → n + 1 - b < m → b ≤ n → a < b → (Z X [some (zr 1 0), some (zr 3 0), some (zi (nI (pas n f (a + 1)).length)), some (zi (nI (a + 1))), none] [] [zH, eNet 2 (nI n) d, zAi 0 24 f, zAi 0 N (rowA (pas n f (a + 1)) r0)] 0 0 4) → Z X [some (zr 1 0), some (zr 3 0), some (zi (nI l.length)), some (zi (nI a)), some (zi (nI b))] [] [zH, eNet 2 (nI n) d, zAi 0 24 f, zAi 0 N (rowA l r0)] 0 0 17 := by
    intro a ha m
    induction m with
    | zero => intro b l hl hl2 hm; omega
    | succ m ih =>
      intro b l hl hl2 hm hb hab kk
      refine z_iload F dX5_tellRow_17 rfl ?_
      refine z_aload_n F dX5_tellRow_19 rfl ?_
      refine z_get F zC5 (f := 0) rfl (Nat.le_of_ble_eq_true rfl) q237 rfl dX5_tellRow_20 ?_
      refine z_icmp_geN F (by omega) (by omega) (tgt := 58) dX5_tellRow_23 (by decide) (fun c_23 => ?_) (fun c_23 => ?_)
      · have eb : b = n := by omega
        subst eb
        subst hl
        refine z_iincN F 1 dX5_tellRow_58 rfl rfl ?_
        refine z_leq (L' := [_, _, _, _, _]) rfl ?_
        refine z_goto F (tgt := 4) dX5_tellRow_61 (by decide) ?_
        refine z_loc _ ?_ kk
        exact ⟨rfl, rfl, rfl, rfl, trivial⟩
      · refine z_aload_n F dX5_tellRow_26 rfl ?_
        refine z_iload_n F dX5_tellRow_27 rfl ?_
        refine z_iload F dX5_tellRow_28 rfl ?_
        refine z_callV F (c_has (nI n) d f a b (by omega) (by omega)) 2 rfl (lw_V q507 q508 q509 q116 q510) (by decide +kernel) ⟨Nat.le_of_ble_eq_true rfl, Nat.le_of_ble_eq_true rfl⟩ ⟨by omega, by omega⟩ [0, 1, 2] 4 ⟨rfl, rfl, rfl, ⟨Or.inl rfl, Or.inr rfl, Or.inr rfl, trivial⟩⟩ (fun h => nomatch h) (Nat.le_of_ble_eq_true rfl) ⟨⟨Or.inr trivial, Or.inl rfl, Or.inl rfl, Or.inr trivial, trivial⟩, rfl, rfl, rfl, Nat.le_of_ble_eq_true rfl⟩ rfl zC5 rfl rfl dX5_tellRow_30 (fun r_30 w_30 hp => ?_) (fun _ _ h => h.elim)
        obtain ⟨rfl, rfl⟩ := hp
        refine z_weq (w' := [zH, zO _ [zi _, zi _, zr _ _], zAi 0 24 _, zAi 0 N _]) rfl ?_
        refine z_seq (S' := zi _ :: _) rfl ?_
        refine z_if_neB F (tgt := 39) dX5_tellRow_33 (by decide) (fun c_33 => ?_) (fun c_33 => ?_)
        · have hlt : l.length < (prs n f).length := by rw [hl]; exact pre_len ha hab (by omega) c_33
          refine z_aload_n F dX5_tellRow_39 rfl ?_
          refine z_iload_n F dX5_tellRow_40 rfl ?_
          refine z_bipush F (nI 32) dX5_tellRow_41 rfl ?_
          refine z_iload_n F dX5_tellRow_43 rfl ?_
          refine z_imulN F dX5_tellRow_44 ?_
          refine z_iload F dX5_tellRow_45 rfl ?_
          refine z_iaddN F dX5_tellRow_47 ?_
          refine z_iastN F rfl (by omega) (by omega) dX5_tellRow_48 ?_
          refine z_weq (w' := [_, _, _, _]) rfl ?_
          refine z_weq (w' := [zH, eNet 2 (nI n) d, zAi 0 24 f, zAi 0 N (rowA (l ++ [(a, b)]) r0)]) (by rw [← rowA_app]; rfl) ?_
          refine z_iincN F 1 dX5_tellRow_49 rfl rfl ?_
          refine z_leq (L' := [_, _, _, _, _]) rfl ?_
          refine z_leq (L' := [some (zr 1 0), some (zr 3 0), some (zi (nI (l ++ [(a, b)]).length)), some (zi (nI a)), some (zi (nI b))]) (by simp) ?_
          refine z_iincN F 1 dX5_tellRow_52 rfl rfl ?_
          refine z_leq (L' := [_, _, _, _, _]) rfl ?_
          refine z_goto F (tgt := 17) dX5_tellRow_55 (by decide) ?_
          exact ih (b + 1) (l ++ [(a, b)]) (by rw [hl, pbs, if_pos ⟨hab, c_33⟩, List.append_assoc]) (by simp; omega) (by omega) (by omega) (by omega) kk
        · refine z_goto F (tgt := 52) dX5_tellRow_36 (by decide) ?_
          refine z_iincN F 1 dX5_tellRow_52 rfl rfl ?_
          refine z_leq (L' := [_, _, _, _, _]) rfl ?_
          refine z_goto F (tgt := 17) dX5_tellRow_55 (by decide) ?_
          exact ih (b + 1) l (by rw [hl, pbs, if_neg (by rw [c_33]; simp)]) hl2 (by omega) (by omega) (by omega) kk
  have outer : ∀ (m a : Nat), n - a < m → a ≤ n → Z X [some (zr 1 0), some (zr 3 0), some (zi (nI (pas n f a).length)), some (zi (nI a)), none] [] [zH, eNet 2 (nI n) d, zAi 0 24 f, zAi 0 N (rowA (pas n f a) r0)] 0 0 4 := by
    intro m
    induction m with
    | zero => intro a hm; omega
    | succ m ih =>
      intro a hm ha
      refine z_iload_n F dX5_tellRow_4 rfl ?_
      refine z_aload_n F dX5_tellRow_5 rfl ?_
      refine z_get F zC5 (f := 0) rfl (Nat.le_of_ble_eq_true rfl) q237 rfl dX5_tellRow_6 ?_
      refine z_icmp_geN F (by omega) (by omega) (tgt := 64) dX5_tellRow_9 (by decide) (fun c_9 => ?_) (fun c_9 => ?_)
      · have ea : a = n := by omega
        subst ea
        exact z_vret F E rfl dX5_tellRow_64 (by omega) (by omega) (⟨rfl, rfl⟩)
      · refine z_iload_n F dX5_tellRow_12 rfl ?_
        refine z_iconst F (nI 1) dX5_tellRow_13 rfl ?_
        refine z_iaddN F dX5_tellRow_14 ?_
        refine z_istore F dX5_tellRow_15 (Nat.le_of_ble_eq_true rfl) ?_
        refine z_leq (L' := [_, _, _, _, _]) rfl ?_
        refine inner a (by omega) _ (a + 1) (pas n f a) (by rw [pbs_lo f a (a + 1) (Nat.le_refl _), List.append_nil]) ?_ (Nat.lt_succ_self _) (by omega) (by omega) (ih (a + 1) (by omega) (by omega))
        have := fb_sm_bound (f := fun a => fb_ct (fun k => decide (a < k) && bt (f a) k) n) (c := 24) (n := a) (fun k _ => Nat.le_trans (fb_ct_le _ _) hn)
        rw [pas_len]
        omega
  refine z_iconst F (nI 0) dX5_tellRow_0 rfl ?_
  refine z_istore_n F dX5_tellRow_1 (Nat.le_of_ble_eq_true rfl) ?_
  refine z_leq (L' := [_, _, _, _, _]) rfl ?_
  refine z_iconst F (nI 0) dX5_tellRow_2 rfl ?_
  refine z_istore_n F dX5_tellRow_3 (Nat.le_of_ble_eq_true rfl) ?_
  refine z_leq (L' := [_, _, _, _, _]) rfl ?_
  refine z_weq (w' := [zH, eNet 2 (nI n) d, zAi 0 24 f, zAi 0 N (rowA (pas n f 0) r0)]) (by rw [pas, rowA_nil]) ?_
  exact outer _ 0 (Nat.lt_succ_self _) (by omega)
theorem c_row (n : Nat) (d : Int32) (f : Nat → Int32) (h : nsy n f) (h97 : (prs n f).length ≤ 100) : zCtr yX5_row cX5_row 2 (some (.array .int)) 3 1 100 [zr 1 0] [zH, eNet 2 (nI n) d, zAi 0 24 f] (fun r w => r = some (zr 3 0) ∧ w = [zH, eNet 2 (nI n) d, zAi 0 24 f, zAi 0 (prs n f).length (rowA (prs n f) (fun _ => 0))]) zNx := by
  refine z_start (by decide) [some (zr 1 0), none] rfl (fun _ => Nat.le_of_ble_eq_true rfl) (fun _ => rfl) (fun X F E hno hin => ?_)
  have hn := h.1
  have hl := prs_len h
  refine z_aload_n F dX5_row_0 rfl ?_
  refine z_callV F (c_netCount n d f hn) 0 rfl (lw_V q783 q766 q767 q116 q768) (by decide +kernel) ⟨Nat.le_of_ble_eq_true rfl, Nat.le_of_ble_eq_true rfl⟩ ⟨by omega, by omega⟩ [0, 1, 2] 3 ⟨rfl, rfl, rfl, ⟨Or.inl rfl, Or.inr rfl, Or.inr rfl, trivial⟩⟩ (fun h => nomatch h) (Nat.le_of_ble_eq_true rfl) ⟨⟨Or.inr trivial, Or.inl rfl, Or.inl rfl, trivial⟩, rfl, rfl, rfl, Nat.le_of_ble_eq_true rfl⟩ rfl zC5 rfl rfl dX5_row_1 (fun r_1 w_1 hp => ?_) (fun _ _ h => h.elim)
  obtain ⟨rfl, rfl⟩ := hp
  rw [hl, Nat.mul_div_cancel_left _ (by decide)]
  refine z_weq (w' := [zH, zO _ [zi _, zi _, zr _ _], zAi 0 24 _]) rfl ?_
  refine z_seq (S' := zi _ :: _) rfl ?_
  refine z_newaI F (prs n f).length 3 q174 (nI_pos (by omega)) (zcl_n (by omega)) (by omega) rfl (Nat.le_of_ble_eq_true rfl) ⟨trivial, rfl, trivial, trivial⟩ rfl rfl ⟨by omega, by omega⟩ dX5_row_4 ?_
  refine z_weq (w' := [_, _, _, _]) rfl ?_
  refine z_astore_n F dX5_row_6 (Nat.le_of_ble_eq_true rfl) ?_
  refine z_leq (L' := [_, _]) rfl ?_
  refine z_aload_n F dX5_row_7 rfl ?_
  refine z_aload_n F dX5_row_8 rfl ?_
  refine z_callV F (c_tellRow n d f (fun _ => 0) (prs n f).length hn (Nat.le_refl _) (by omega)) 1 rfl (lw_V q784 q785 q786 q116 q787) (by decide +kernel) ⟨Nat.le_of_ble_eq_true rfl, Nat.le_of_ble_eq_true rfl⟩ ⟨by omega, by omega⟩ [0, 1, 2, 3] 4 ⟨rfl, rfl, rfl, ⟨Or.inl rfl, Or.inr rfl, Or.inr rfl, Or.inr rfl, trivial⟩⟩ (fun h => nomatch h) (Nat.le_of_ble_eq_true rfl) ⟨⟨Or.inr trivial, Or.inl rfl, Or.inl rfl, Or.inl rfl, trivial⟩, rfl, rfl, rfl, Nat.le_of_ble_eq_true rfl⟩ rfl zC5 rfl rfl dX5_row_9 (fun r_9 w_9 hp => ?_) (fun _ _ h => h.elim)
  obtain ⟨rfl, rfl⟩ := hp
  refine z_weq (w' := [zH, zO _ [zi _, zi _, zr _ _], zAi 0 24 _, zAi 0 (prs n f).length _]) rfl ?_
  refine z_seq (S' := []) rfl ?_
  refine z_aload_n F dX5_row_12 rfl ?_
  exact z_aret F E rfl (Or.inr ⟨_, rfl⟩) dX5_row_13 (by omega) (by omega) (⟨rfl, rfl⟩)
end C44
