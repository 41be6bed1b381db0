/-! Flood: what is asked of it -/
section C42
theorem c_distance (n a b : Nat) (d : Int32) (f : Nat → Int32) (sn0 g0 sm0 : Int32) (D : Nat → Int32) (hn : n ≤ 24) (ha : a < n) (hb : b < n) :
    zCtr yX2_distance cX2_distance 4 (some .int) 2 0 0 [zr 1 0, zr 3 0, zi (nI a), zi (nI b)] (wFl (nI n) d f sn0 g0 sm0 D) (fun r w => r = some (zi (dI (dst n f (allB n) a b))) ∧ ∃ sn1 g1 sm1 D1, w = wFl (nI n) d f sn1 g1 sm1 D1) zNx := by
  refine z_start (by decide) [some (zr 1 0), some (zr 3 0), some (zi (nI a)), some (zi (nI b))] rfl (fun _ => Nat.le_of_ble_eq_true rfl) (fun _ => rfl) (fun X F E hno hin => ?_)
  have hall : ∀ i, i < 32 → bt (allB n) i = true → i < n := fun i _ h => by rw [bt_allB hn] at h; simpa using h
  refine z_aload_n F dX2_distance_0 rfl ?_
  refine z_aload_n F dX2_distance_1 rfl ?_
  refine z_iload_n F dX2_distance_2 rfl ?_
  refine z_aload_n F dX2_distance_3 rfl ?_
  refine z_callV F (c_all n d hn) 0 rfl (lw_V q799 q800 q801 q116 q802) (by decide +kernel) ⟨Nat.le_of_ble_eq_true rfl, Nat.le_of_ble_eq_true rfl⟩ ⟨by omega, by omega⟩ [0, 3, 4] 5 ⟨rfl, rfl, rfl, ⟨Or.inl rfl, Or.inr rfl, Or.inl rfl, trivial⟩⟩ (fun h => nomatch h) (Nat.le_of_ble_eq_true rfl) ⟨⟨Or.inr trivial, Or.inr rfl, Or.inr trivial, Or.inl rfl, Or.inr trivial, trivial⟩, rfl, rfl, rfl, Nat.le_of_ble_eq_true rfl⟩ rfl zC5 rfl rfl dX2_distance_4 (fun r_4 w_4 hp => ?_) (fun _ _ h => h.elim)
  obtain ⟨rfl, rfl⟩ := hp
  refine z_weq (w' := [zH, zO _ [zr _ _, zi _, zi _, zi _], zAi 0 24 _, zO _ [zi _, zi _, zr _ _], zAi 0 24 _]) rfl ?_
  refine z_seq (S' := zi _ :: _) rfl ?_
  refine z_callV F (c_run n a d f (allB n) _ _ _ _ hn ha hall) 3 rfl (lw_V q803 q804 q805 q110 q806) (by decide +kernel) ⟨Nat.le_of_ble_eq_true rfl, Nat.le_of_ble_eq_true rfl⟩ ⟨by omega, by omega⟩ [0, 1, 2, 3, 4] 5 ⟨rfl, rfl, rfl, ⟨Or.inl rfl, Or.inr rfl, Or.inr rfl, Or.inr rfl, Or.inr rfl, trivial⟩⟩ (fun h => nomatch h) (Nat.le_of_ble_eq_true rfl) ⟨⟨Or.inr trivial, Or.inl rfl, Or.inl rfl, Or.inl rfl, Or.inl rfl, trivial⟩, rfl, rfl, rfl, Nat.le_of_ble_eq_true rfl⟩ rfl zC2 rfl rfl dX2_distance_7 (fun r_7 w_7 hp => ?_) (fun _ _ h => h.elim)
  obtain ⟨rfl, D1, rfl, t2⟩ := hp
  refine z_weq (w' := [zH, zO _ [zr _ _, zi _, zi _, zi _], zAi 0 24 _, zO _ [zi _, zi _, zr _ _], zAi 0 24 _]) rfl ?_
  refine z_seq (S' := []) rfl ?_
  refine z_aload_n F dX2_distance_10 rfl ?_
  refine z_get F zC2 (f := 1) rfl (Nat.le_of_ble_eq_true rfl) q161 rfl dX2_distance_11 ?_
  refine z_iload_n F dX2_distance_14 rfl ?_
  refine z_ishr F dX2_distance_15 ?_
  refine z_iconst F (nI 1) dX2_distance_16 rfl ?_
  refine z_iandB F (by omega) dX2_distance_17 ?_
  refine z_iconst F (nI 1) dX2_distance_18 rfl ?_
  refine z_icmp_neB F (tgt := 31) dX2_distance_19 (by decide) (fun c_19 => ?_) (fun c_19 => ?_)
  · have e0 : dst n f (allB n) a b = none := by
      cases hq : dst n f (allB n) a b with
      | none => rfl
      | some e => rw [(sn_all (by omega) (by omega)).mpr ⟨e, hq⟩] at c_19; cases c_19
    refine z_iconst F (-1) dX2_distance_31 rfl ?_
    exact z_iret F E rfl dX2_distance_32 (by omega) (by omega) (⟨by first | (rw [e0]; rfl) | (rw [he, t2 b e (by omega) he]; rfl), _, _, _, _, rfl⟩)
  · obtain ⟨e, he⟩ := (sn_all (by omega) (by omega)).mp c_19
    refine z_aload_n F dX2_distance_22 rfl ?_
    refine z_get F zC2 (f := 0) rfl (Nat.le_of_ble_eq_true rfl) q159 rfl dX2_distance_23 ?_
    refine z_iload_n F dX2_distance_26 rfl ?_
    refine z_ialdN F rfl (Nat.le_of_ble_eq_true rfl) (by omega) rfl dX2_distance_27 ?_
    refine z_goto F (tgt := 32) dX2_distance_28 (by decide) ?_
    exact z_iret F E rfl dX2_distance_32 (by omega) (by omega) (⟨by first | (rw [e0]; rfl) | (rw [he, t2 b e (by omega) he]; rfl), _, _, _, _, rfl⟩)
theorem c_cjn (n : Nat) (d : Int32) (f : Nat → Int32) (sn0 g0 sm0 : Int32) (D : Nat → Int32) (hn : n ≤ 24) (h0 : 0 < n) :
    zCtr yX2_isJoined cX2_isJoined 2 (some .boolean) 2 0 0 [zr 1 0, zr 3 0] (wFl (nI n) d f sn0 g0 sm0 D) (fun r w => r = some (zi (bI (cjn n f))) ∧ ∃ sn1 g1 sm1 D1, w = wFl (nI n) d f sn1 g1 sm1 D1) zNx := by
  refine z_start (by decide) [some (zr 1 0), some (zr 3 0)] rfl (fun _ => Nat.le_of_ble_eq_true rfl) (fun _ => rfl) (fun X F E hno hin => ?_)
  have hall : ∀ i, i < 32 → bt (allB n) i = true → i < n := fun i _ h => by rw [bt_allB hn] at h; simpa using h
  refine z_aload_n F dX2_isJoined_0 rfl ?_
  refine z_aload_n F dX2_isJoined_1 rfl ?_
  refine z_iconst F (nI 0) dX2_isJoined_2 rfl ?_
  refine z_aload_n F dX2_isJoined_3 rfl ?_
  refine z_callV F (c_all n d hn) 0 rfl (lw_V q799 q800 q801 q116 q802) (by decide +kernel) ⟨Nat.le_of_ble_eq_true rfl, Nat.le_of_ble_eq_true rfl⟩ ⟨by omega, by omega⟩ [0, 3, 4] 5 ⟨rfl, rfl, rfl, ⟨Or.inl rfl, Or.inr rfl, Or.inl rfl, trivial⟩⟩ (fun h => nomatch h) (Nat.le_of_ble_eq_true rfl) ⟨⟨Or.inr trivial, Or.inr rfl, Or.inr trivial, Or.inl rfl, Or.inr trivial, trivial⟩, rfl, rfl, rfl, Nat.le_of_ble_eq_true rfl⟩ rfl zC5 rfl rfl dX2_isJoined_4 (fun r_4 w_4 hp => ?_) (fun _ _ h => h.elim)
  obtain ⟨rfl, rfl⟩ := hp
  refine z_weq (w' := [zH, zO _ [zr _ _, zi _, zi _, zi _], zAi 0 24 _, zO _ [zi _, zi _, zr _ _], zAi 0 24 _]) rfl ?_
  refine z_seq (S' := zi _ :: _) rfl ?_
  refine z_callV F (c_run n 0 d f (allB n) _ _ _ _ hn h0 hall) 3 rfl (lw_V q803 q804 q805 q110 q806) (by decide +kernel) ⟨Nat.le_of_ble_eq_true rfl, Nat.le_of_ble_eq_true rfl⟩ ⟨by omega, by omega⟩ [0, 1, 2, 3, 4] 5 ⟨rfl, rfl, rfl, ⟨Or.inl rfl, Or.inr rfl, Or.inr rfl, Or.inr rfl, Or.inr rfl, trivial⟩⟩ (fun h => nomatch h) (Nat.le_of_ble_eq_true rfl) ⟨⟨Or.inr trivial, Or.inl rfl, Or.inl rfl, Or.inl rfl, Or.inl rfl, trivial⟩, rfl, rfl, rfl, Nat.le_of_ble_eq_true rfl⟩ rfl zC2 rfl rfl dX2_isJoined_7 (fun r_7 w_7 hp => ?_) (fun _ _ h => h.elim)
  obtain ⟨rfl, D1, rfl, t2⟩ := hp
  refine z_weq (w' := [zH, zO _ [zr _ _, zi _, zi _, zi _], zAi 0 24 _, zO _ [zi _, zi _, zr _ _], zAi 0 24 _]) rfl ?_
  refine z_seq (S' := []) rfl ?_
  refine z_aload_n F dX2_isJoined_10 rfl ?_
  refine z_get F zC2 (f := 1) rfl (Nat.le_of_ble_eq_true rfl) q161 rfl dX2_isJoined_11 ?_
  refine z_aload_n F dX2_isJoined_14 rfl ?_
  refine z_callV F (c_all n d hn) 0 rfl (lw_V q799 q800 q801 q116 q802) (by decide +kernel) ⟨Nat.le_of_ble_eq_true rfl, Nat.le_of_ble_eq_true rfl⟩ ⟨by omega, by omega⟩ [0, 3, 4] 5 ⟨rfl, rfl, rfl, ⟨Or.inl rfl, Or.inr rfl, Or.inl rfl, trivial⟩⟩ (fun h => nomatch h) (Nat.le_of_ble_eq_true rfl) ⟨⟨Or.inr trivial, Or.inr rfl, Or.inr trivial, Or.inl rfl, Or.inr trivial, trivial⟩, rfl, rfl, rfl, Nat.le_of_ble_eq_true rfl⟩ rfl zC5 rfl rfl dX2_isJoined_15 (fun r_15 w_15 hp => ?_) (fun _ _ h => h.elim)
  obtain ⟨rfl, rfl⟩ := hp
  refine z_weq (w' := [zH, zO _ [zr _ _, zi _, zi _, zi _], zAi 0 24 _, zO _ [zi _, zi _, zr _ _], zAi 0 24 _]) rfl ?_
  refine z_seq (S' := zi _ :: _) rfl ?_
  refine z_icmp_ne F (tgt := 25) dX2_isJoined_18 (by decide) (fun c_18 => ?_) (fun c_18 => ?_)
  · have e0 : cjn n f = false := by unfold cjn; simp [c_18]
    refine z_iconst F (nI 0) dX2_isJoined_25 rfl ?_
    exact z_zret F E rfl rfl dX2_isJoined_26 (by omega) (by omega) (⟨by rw [e0]; rfl, _, _, _, _, rfl⟩)
  · have e0 : cjn n f = true := by unfold cjn; simp [c_18]
    refine z_iconst F (nI 1) dX2_isJoined_21 rfl ?_
    refine z_goto F (tgt := 26) dX2_isJoined_22 (by decide) ?_
    exact z_zret F E rfl rfl dX2_isJoined_26 (by omega) (by omega) (⟨by rw [e0]; rfl, _, _, _, _, rfl⟩)
theorem c_farthest (n : Nat) (d : Int32) (f : Nat → Int32) (st : Int32) (sn0 g0 sm0 : Int32) (D : Nat → Int32) (hn : n ≤ 24) (hst : ∀ i, i < 32 → bt st i = true → i < n) :
    zCtr yX2_farthest cX2_farthest 5 (some .int) 2 0 0 [zr 1 0, zr 3 0, zi st] (wFl (nI n) d f sn0 g0 sm0 D) (fun r w => r = some (zi (nI (cfar n f st))) ∧ ∃ sn1 g1 sm1 D1, w = wFl (nI n) d f sn1 g1 sm1 D1) zNx := by
  refine z_start (by decide) [some (zr 1 0), some (zr 3 0), some (zi st), none, none] rfl (fun _ => Nat.le_of_ble_eq_true rfl) (fun _ => rfl) (fun X F E hno hin => ?_)
  have loop : ∀ (m : Nat) (y : Int32) (j v : Nat) (sn1 g1 sm1 : Int32) (D1 : Nat → Int32), pc32 y < m → j ≤ 32 → upto st j y → cfa n f st j = some v → Z X [some (zr 1 0), some (zr 3 0), some (zi st), some (zi (nI v)), some (zi y)] [] (wFl (nI n) d f sn1 g1 sm1 D1) 0 0 5 := by
    intro m
    induction m with
    | zero => intro y j v sn1 g1 sm1 D1 hm; omega
    | succ m ih =>
      intro y j v sn1 g1 sm1 D1 hm hj hu hv
      have hv32 := cfa_lt n f st j v hv
      refine z_iload F dX2_farthest_5 rfl ?_
      refine z_if_eq F (tgt := 53) dX2_farthest_7 (by decide) (fun c_7 => ?_) (fun c_7 => ?_)
      · subst c_7
        have e0 : cfa n f st 32 = some v := (cfa_skip hj (fun k a b => upto_end hu k a b)).trans hv
        refine z_iload_n F dX2_farthest_53 rfl ?_
        exact z_iret F E rfl dX2_farthest_54 (by omega) (by omega) (⟨by unfold cfar; rw [e0], _, _, _, _, rfl⟩)
      · obtain ⟨i, hi, hji, hS, hSk, hy1, hy0, hu2, hpc⟩ := upto_low hu c_7
        have hin := hst i hi hS
        have e1 : cfa n f st i = some v := (cfa_skip hji (fun k a b => hSk k a b)).trans hv
        refine z_aload_n F dX2_farthest_10 rfl ?_
        refine z_aload_n F dX2_farthest_11 rfl ?_
        refine z_iload F dX2_farthest_12 rfl ?_
        refine z_callS F (c_ntz y i hi hy1 hy0) 1 rfl (lw_S q807 q808 q123 q809) (by decide +kernel) ⟨Nat.le_of_ble_eq_true rfl, Nat.le_of_ble_eq_true rfl⟩ ⟨by omega, by omega⟩ [0] 5 ⟨rfl, rfl, rfl, ⟨Or.inl rfl, trivial⟩⟩ (fun h => nomatch h) (Nat.le_of_ble_eq_true rfl) ⟨⟨Or.inr trivial, Or.inr rfl, Or.inr trivial, Or.inr rfl, Or.inr trivial, trivial⟩, rfl, rfl, rfl, Nat.le_of_ble_eq_true rfl⟩ rfl rfl dX2_farthest_14 (fun r_14 w_14 hp => ?_) (fun _ _ h => h.elim)
        obtain ⟨rfl, rfl⟩ := hp
        refine z_weq (w' := [zH, zO _ [zr _ _, zi _, zi _, zi _], zAi 0 24 _, zO _ [zi _, zi _, zr _ _], zAi 0 24 _]) rfl ?_
        refine z_seq (S' := zi _ :: _) rfl ?_
        refine z_iload_n F dX2_farthest_17 rfl ?_
        refine z_callV F (c_run n i d f st _ _ _ _ hn hin hst) 3 rfl (lw_V q803 q804 q805 q110 q806) (by decide +kernel) ⟨Nat.le_of_ble_eq_true rfl, Nat.le_of_ble_eq_true rfl⟩ ⟨by omega, by omega⟩ [0, 1, 2, 3, 4] 5 ⟨rfl, rfl, rfl, ⟨Or.inl rfl, Or.inr rfl, Or.inr rfl, Or.inr rfl, Or.inr rfl, trivial⟩⟩ (fun h => nomatch h) (Nat.le_of_ble_eq_true rfl) ⟨⟨Or.inr trivial, Or.inl rfl, Or.inl rfl, Or.inl rfl, Or.inl rfl, trivial⟩, rfl, rfl, rfl, Nat.le_of_ble_eq_true rfl⟩ rfl zC2 rfl rfl dX2_farthest_18 (fun r_18 w_18 hp => ?_) (fun _ _ h => h.elim)
        obtain ⟨rfl, D2, rfl, t2⟩ := hp
        have he32 := ecc_lt n f st i
        refine z_weq (w' := [zH, zO _ [zr _ _, zi _, zi _, zi _], zAi 0 24 _, zO _ [zi _, zi _, zr _ _], zAi 0 24 _]) rfl ?_
        refine z_seq (S' := []) rfl ?_
        refine z_aload_n F dX2_farthest_21 rfl ?_
        refine z_get F zC2 (f := 1) rfl (Nat.le_of_ble_eq_true rfl) q161 rfl dX2_farthest_22 ?_
        refine z_iload_n F dX2_farthest_25 rfl ?_
        refine z_icmp_eq F (tgt := 32) dX2_farthest_26 (by decide) (fun c_26 => ?_) (fun c_26 => ?_)
        · have e2 : cfa n f st (i + 1) = some (max v (ecc n f st i)) := by rw [cfa, if_pos hS, e1]; simp only; rw [if_pos c_26]
          refine z_iload_n F dX2_farthest_32 rfl ?_
          refine z_aload_n F dX2_farthest_33 rfl ?_
          refine z_get F zC2 (f := 2) rfl (Nat.le_of_ble_eq_true rfl) q162 rfl dX2_farthest_34 ?_
          refine z_mmax F q827 dX2_farthest_37 (Nat.le_of_ble_eq_true rfl) rfl (Nat.le_of_ble_eq_true rfl) ⟨by omega, by omega⟩ ?_
          refine z_ieq (mmaxN (by omega) (by omega)) ?_
          refine z_istore_n F dX2_farthest_40 (Nat.le_of_ble_eq_true rfl) ?_
          refine z_leq (L' := [_, _, _, _, _]) rfl ?_
          refine z_iload F dX2_farthest_41 rfl ?_
          refine z_iload F dX2_farthest_43 rfl ?_
          refine z_iconst F (nI 1) dX2_farthest_45 rfl ?_
          refine z_isub F dX2_farthest_46 ?_
          refine z_iand F dX2_farthest_47 ?_
          refine z_istore F dX2_farthest_48 (Nat.le_of_ble_eq_true rfl) ?_
          refine z_leq (L' := [_, _, _, _, _]) rfl ?_
          refine z_goto F (tgt := 5) dX2_farthest_50 (by decide) ?_
          exact ih _ (i + 1) _ _ _ _ _ (by omega) (by omega) hu2 e2
        · have e2 : cfa n f st (i + 1) = none := by rw [cfa, if_pos hS, e1]; simp only; rw [if_neg c_26]
          have e0 : cfa n f st 32 = none := cfa_none e2 (by omega)
          refine z_bipush F (nI 100) dX2_farthest_29 rfl ?_
          exact z_iret F E rfl dX2_farthest_31 (by omega) (by omega) (⟨by unfold cfar; rw [e0], _, _, _, _, rfl⟩)
  refine z_iconst F (nI 0) dX2_farthest_0 rfl ?_
  refine z_istore_n F dX2_farthest_1 (Nat.le_of_ble_eq_true rfl) ?_
  refine z_leq (L' := [_, _, _, _, _]) rfl ?_
  refine z_iload_n F dX2_farthest_2 rfl ?_
  refine z_istore F dX2_farthest_3 (Nat.le_of_ble_eq_true rfl) ?_
  refine z_leq (L' := [_, _, _, _, _]) rfl ?_
  exact loop _ st 0 0 _ _ _ _ (Nat.lt_succ_self _) (by omega) (upto_0 _) rfl
theorem c_sums (n : Nat) (d : Int32) (f : Nat → Int32) (sn0 g0 sm0 : Int32) (D : Nat → Int32) (hn : n ≤ 24) :
    zCtr yX2_sums cX2_sums 4 (some .int) 2 0 0 [zr 1 0, zr 3 0] (wFl (nI n) d f sn0 g0 sm0 D) (fun r w => r = some (zi (nI (csm n f / 2))) ∧ ∃ sn1 g1 sm1 D1, w = wFl (nI n) d f sn1 g1 sm1 D1) zNx := by
  refine z_start (by decide) [some (zr 1 0), some (zr 3 0), none, none] rfl (fun _ => Nat.le_of_ble_eq_true rfl) (fun _ => rfl) (fun X F E hno hin => ?_)
  have hall : ∀ i, i < 32 → bt (allB n) i = true → i < n := fun i _ h => by rw [bt_allB hn] at h; simpa using h
  have loop : ∀ (m k : Nat) (sn1 g1 sm1 : Int32) (D1 : Nat → Int32), n - k < m → k ≤ n → Z X [some (zr 1 0), some (zr 3 0), some (zi (nI (fb_sm (fun k => crs n f (allB n) k) k))), some (zi (nI k))] [] (wFl (nI n) d f sn1 g1 sm1 D1) 0 0 4 := by
    intro m
    induction m with
    | zero => intro k sn1 g1 sm1 D1 hm; omega
    | succ m ih =>
      intro k sn1 g1 sm1 D1 hm hk
      have hle := csm_le n f k
      refine z_iload_n F dX2_sums_4 rfl ?_
      refine z_aload_n F dX2_sums_5 rfl ?_
      refine z_getN F zC5 (f := 0) rfl (Nat.le_of_ble_eq_true rfl) q244 rfl dX2_sums_6 ?_
      refine z_icmp_geN F (by omega) (by omega) (tgt := 35) dX2_sums_9 (by decide) (fun c_9 => ?_) (fun c_9 => ?_)
      · have ek : k = n := by omega
        subst ek
        refine z_iload_n F dX2_sums_35 rfl ?_
        refine z_iconst F (nI 2) dX2_sums_36 rfl ?_
        refine z_idivN F (by omega) (by omega) (by omega) dX2_sums_37 ?_
        exact z_iret F E rfl dX2_sums_38 (by omega) (by omega) (⟨rfl, _, _, _, _, rfl⟩)
      · refine z_aload_n F dX2_sums_12 rfl ?_
        refine z_aload_n F dX2_sums_13 rfl ?_
        refine z_iload_n F dX2_sums_14 rfl ?_
        refine z_aload_n F dX2_sums_15 rfl ?_
        refine z_callV F (c_all n d hn) 0 rfl (lw_V q799 q800 q801 q116 q802) (by decide +kernel) ⟨Nat.le_of_ble_eq_true rfl, Nat.le_of_ble_eq_true rfl⟩ ⟨by omega, by omega⟩ [0, 3, 4] 5 ⟨rfl, rfl, rfl, ⟨Or.inl rfl, Or.inr rfl, Or.inl rfl, trivial⟩⟩ (fun h => nomatch h) (Nat.le_of_ble_eq_true rfl) ⟨⟨Or.inr trivial, Or.inr rfl, Or.inr trivial, Or.inl rfl, Or.inr trivial, trivial⟩, rfl, rfl, rfl, Nat.le_of_ble_eq_true rfl⟩ rfl zC5 rfl rfl dX2_sums_16 (fun r_16 w_16 hp => ?_) (fun _ _ h => h.elim)
        obtain ⟨rfl, rfl⟩ := hp
        refine z_weq (w' := [zH, zO _ [zr _ _, zi _, zi _, zi _], zAi 0 24 _, zO _ [zi _, zi _, zr _ _], zAi 0 24 _]) rfl ?_
        refine z_seq (S' := zi _ :: _) rfl ?_
        refine z_callV F (c_run n k d f (allB n) _ _ _ _ hn (by omega) hall) 3 rfl (lw_V q803 q804 q805 q110 q806) (by decide +kernel) ⟨Nat.le_of_ble_eq_true rfl, Nat.le_of_ble_eq_true rfl⟩ ⟨by omega, by omega⟩ [0, 1, 2, 3, 4] 5 ⟨rfl, rfl, rfl, ⟨Or.inl rfl, Or.inr rfl, Or.inr rfl, Or.inr rfl, Or.inr rfl, trivial⟩⟩ (fun h => nomatch h) (Nat.le_of_ble_eq_true rfl) ⟨⟨Or.inr trivial, Or.inl rfl, Or.inl rfl, Or.inl rfl, Or.inl rfl, trivial⟩, rfl, rfl, rfl, Nat.le_of_ble_eq_true rfl⟩ rfl zC2 rfl rfl dX2_sums_19 (fun r_19 w_19 hp => ?_) (fun _ _ h => h.elim)
        obtain ⟨rfl, D2, rfl, t2⟩ := hp
        refine z_weq (w' := [zH, zO _ [zr _ _, zi _, zi _, zi _], zAi 0 24 _, zO _ [zi _, zi _, zr _ _], zAi 0 24 _]) rfl ?_
        refine z_seq (S' := []) rfl ?_
        refine z_iload_n F dX2_sums_22 rfl ?_
        refine z_aload_n F dX2_sums_23 rfl ?_
        refine z_get F zC2 (f := 3) rfl (Nat.le_of_ble_eq_true rfl) q163 rfl dX2_sums_24 ?_
        refine z_iaddN F dX2_sums_27 ?_
        refine z_istore_n F dX2_sums_28 (Nat.le_of_ble_eq_true rfl) ?_
        refine z_leq (L' := [_, _, _, _]) rfl ?_
        refine z_iincN F 1 dX2_sums_29 rfl rfl ?_
        refine z_leq (L' := [_, _, _, _]) rfl ?_
        refine z_goto F (tgt := 4) dX2_sums_32 (by decide) ?_
        exact ih (k + 1) _ _ _ _ (by omega) (by omega)
  refine z_iconst F (nI 0) dX2_sums_0 rfl ?_
  refine z_istore_n F dX2_sums_1 (Nat.le_of_ble_eq_true rfl) ?_
  refine z_leq (L' := [_, _, _, _]) rfl ?_
  refine z_iconst F (nI 0) dX2_sums_2 rfl ?_
  refine z_istore_n F dX2_sums_3 (Nat.le_of_ble_eq_true rfl) ?_
  refine z_leq (L' := [_, _, _, _]) rfl ?_
  exact loop _ 0 _ _ _ _ (Nat.lt_succ_self _) (by omega)
theorem c_price (n : Nat) (d : Int32) (f : Nat → Int32) (sn0 g0 sm0 : Int32) (D : Nat → Int32) (hn : n ≤ 24) :
    zCtr yX2_price cX2_price 3 (some .int) 3 0 0 [zr 1 0, zr 3 0] (wFl (nI n) d f sn0 g0 sm0 D) (fun r w => r = some (zi (nI (cpr n f))) ∧ ∃ sn1 g1 sm1 D1, w = wFl (nI n) d f sn1 g1 sm1 D1) zNx := by
  refine z_start (by decide) [some (zr 1 0), some (zr 3 0), none] rfl (fun _ => Nat.le_of_ble_eq_true rfl) (fun _ => rfl) (fun X F E hno hin => ?_)
  have hall : ∀ i, i < 32 → bt (allB n) i = true → i < n := fun i _ h => by rw [bt_allB hn] at h; simpa using h
  have hfl : cfar n f (allB n) < 2 ^ 31 := by
    unfold cfar
    split
    · decide
    · rename_i v h; have := cfa_lt _ _ _ _ _ h; omega
  refine z_aload_n F dX2_price_0 rfl ?_
  refine z_aload_n F dX2_price_1 rfl ?_
  refine z_aload_n F dX2_price_2 rfl ?_
  refine z_callV F (c_all n d hn) 0 rfl (lw_V q799 q800 q801 q116 q802) (by decide +kernel) ⟨Nat.le_of_ble_eq_true rfl, Nat.le_of_ble_eq_true rfl⟩ ⟨by omega, by omega⟩ [0, 3, 4] 5 ⟨rfl, rfl, rfl, ⟨Or.inl rfl, Or.inr rfl, Or.inl rfl, trivial⟩⟩ (fun h => nomatch h) (Nat.le_of_ble_eq_true rfl) ⟨⟨Or.inr trivial, Or.inr rfl, Or.inr trivial, Or.inl rfl, Or.inr trivial, trivial⟩, rfl, rfl, rfl, Nat.le_of_ble_eq_true rfl⟩ rfl zC5 rfl rfl dX2_price_3 (fun r_3 w_3 hp => ?_) (fun _ _ h => h.elim)
  obtain ⟨rfl, rfl⟩ := hp
  refine z_weq (w' := [zH, zO _ [zr _ _, zi _, zi _, zi _], zAi 0 24 _, zO _ [zi _, zi _, zr _ _], zAi 0 24 _]) rfl ?_
  refine z_seq (S' := zi _ :: _) rfl ?_
  refine z_callV F (c_farthest n d f (allB n) _ _ _ _ hn hall) 2 rfl (lw_V q866 q824 q825 q110 q826) (by decide +kernel) ⟨Nat.le_of_ble_eq_true rfl, Nat.le_of_ble_eq_true rfl⟩ ⟨by omega, by omega⟩ [0, 1, 2, 3, 4] 5 ⟨rfl, rfl, rfl, ⟨Or.inl rfl, Or.inr rfl, Or.inr rfl, Or.inr rfl, Or.inr rfl, trivial⟩⟩ (fun h => nomatch h) (Nat.le_of_ble_eq_true rfl) ⟨⟨Or.inr trivial, Or.inl rfl, Or.inl rfl, Or.inl rfl, Or.inl rfl, trivial⟩, rfl, rfl, rfl, Nat.le_of_ble_eq_true rfl⟩ rfl zC2 rfl rfl dX2_price_6 (fun r_6 w_6 hp => ?_) (fun _ _ h => h.elim)
  obtain ⟨rfl, sn1, g1, sm1, D1, rfl⟩ := hp
  refine z_weq (w' := [zH, zO _ [zr _ _, zi _, zi _, zi _], zAi 0 24 _, zO _ [zi _, zi _, zr _ _], zAi 0 24 _]) rfl ?_
  refine z_seq (S' := zi _ :: _) rfl ?_
  refine z_istore_n F dX2_price_9 (Nat.le_of_ble_eq_true rfl) ?_
  refine z_leq (L' := [_, _, _]) rfl ?_
  refine z_iload_n F dX2_price_10 rfl ?_
  refine z_bipush F (nI 100) dX2_price_11 rfl ?_
  refine z_icmp_neN F (by omega) (by omega) (tgt := 21) dX2_price_13 (by decide) (fun c_13 => ?_) (fun c_13 => ?_)
  · obtain ⟨v, e0⟩ : ∃ v, cfa n f (allB n) 32 = some v := by
      cases hq : cfa n f (allB n) 32 with
      | none => exact absurd (by unfold cfar; rw [hq]) c_13
      | some v => exact ⟨v, rfl⟩
    have e1 : cfar n f (allB n) = v := by unfold cfar; rw [e0]
    refine z_sipush F (nI 1000) dX2_price_21 rfl ?_
    refine z_iload_n F dX2_price_24 rfl ?_
    refine z_imulN F dX2_price_25 ?_
    refine z_aload_n F dX2_price_26 rfl ?_
    refine z_aload_n F dX2_price_27 rfl ?_
    refine z_callV F (c_sums n d f _ _ _ _ hn) 1 rfl (lw_V q868 q829 q830 q110 q831) (by decide +kernel) ⟨Nat.le_of_ble_eq_true rfl, Nat.le_of_ble_eq_true rfl⟩ ⟨by omega, by omega⟩ [0, 1, 2, 3, 4] 5 ⟨rfl, rfl, rfl, ⟨Or.inl rfl, Or.inr rfl, Or.inr rfl, Or.inr rfl, Or.inr rfl, trivial⟩⟩ (fun h => nomatch h) (Nat.le_of_ble_eq_true rfl) ⟨⟨Or.inr trivial, Or.inl rfl, Or.inl rfl, Or.inl rfl, Or.inl rfl, trivial⟩, rfl, rfl, rfl, Nat.le_of_ble_eq_true rfl⟩ rfl zC2 rfl rfl dX2_price_28 (fun r_28 w_28 hp => ?_) (fun _ _ h => h.elim)
    obtain ⟨rfl, sn2, g2, sm2, D2, rfl⟩ := hp
    refine z_weq (w' := [zH, zO _ [zr _ _, zi _, zi _, zi _], zAi 0 24 _, zO _ [zi _, zi _, zr _ _], zAi 0 24 _]) rfl ?_
    refine z_seq (S' := zi _ :: _) rfl ?_
    refine z_iaddN F dX2_price_31 ?_
    exact z_iret F E rfl dX2_price_32 (by omega) (by omega) (⟨by first | (unfold cpr; rw [e0, e1]; done) | (unfold cpr; rw [e0]; rfl), _, _, _, _, rfl⟩)
  · have e0 : cfa n f (allB n) 32 = none := by
      unfold cfar at c_13
      split at c_13
      · assumption
      · rename_i v h; have := cfa_lt _ _ _ _ _ h; omega
    refine z_ldc F dX2_price_16 q867 ?_
    refine z_goto F (tgt := 32) dX2_price_18 (by decide) ?_
    exact z_iret F E rfl dX2_price_32 (by omega) (by omega) (⟨by first | (unfold cpr; rw [e0, e1]; done) | (unfold cpr; rw [e0]; rfl), _, _, _, _, rfl⟩)
end C42
