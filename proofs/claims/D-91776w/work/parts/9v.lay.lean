/-! lay: WiredNets' operation -/
section C9v
theorem c_flInit (n w d : Nat) (f : Nat → Int32) (h : nok n d f) : zCtr yX12_init cX12_init 3 none 4 3 200 [zr 1 0, zr 2 0, zi (nI w)] [zH, zO 12 [zn, zi 0, zn, zn, zn, zi 0], eNet 3 (nI n) (nI d), zAi 0 24 f] (fun r v => r = none ∧ v = [zH, eFo (nI w) (-1), eNet 3 (nI n) (nI d), zAi 0 24 f, zAi 0 (prs n f).length (rowA (prs n f) (fun _ => 0)), zAi 0 n (fun _ => 0), zAi 0 n (fun _ => 0)]) zNx := by
  refine z_start (by decide) [some (zr 1 0), some (zr 2 0), some (zi (nI w))] rfl (fun _ => Nat.le_of_ble_eq_true rfl) (fun _ => rfl) (fun X F E hno hin => ?_)
  have hn := h.n24
  have hn1 := h.n1
  have h96 := prs_96 h
  refine z_aload_n F dX12_init_0 rfl ?_
  refine z_objInit F q1232 q149 q150 dX12_init_1 (Nat.le_of_ble_eq_true rfl) rfl (Nat.le_of_ble_eq_true rfl) ?_
  refine z_aload_n F dX12_init_4 rfl ?_
  refine z_iconst F (-1) dX12_init_5 rfl ?_
  refine z_put F zC12 (f := 5) rfl (Nat.le_of_ble_eq_true rfl) q1240 rfl (fun _ => rfl) (fun _ => rfl) (Nat.le_of_ble_eq_true rfl) dX12_init_6 ?_
  refine z_weq (w' := [_, zO _ [_, _, _, _, _, _], _, _]) rfl ?_
  refine z_aload_n F dX12_init_9 rfl ?_
  refine z_aload_n F dX12_init_10 rfl ?_
  refine z_putF F zC12 (f := 0) rfl (Nat.le_of_ble_eq_true rfl) q1234 rfl hin rfl (fun _ => rfl) (fun _ => rfl) (Nat.le_of_ble_eq_true rfl) dX12_init_11 ?_
  refine z_weq (w' := [_, zO _ [_, _, _, _, _, _], _, _]) rfl ?_
  refine z_aload_n F dX12_init_14 rfl ?_
  refine z_iload_n F dX12_init_15 rfl ?_
  refine z_putF F zC12 (f := 1) rfl (Nat.le_of_ble_eq_true rfl) q1235 rfl hin rfl (fun _ => rfl) (fun _ => rfl) (Nat.le_of_ble_eq_true rfl) dX12_init_16 ?_
  refine z_weq (w' := [_, zO _ [_, _, _, _, _, _], _, _]) rfl ?_
  refine z_aload_n F dX12_init_19 rfl ?_
  refine z_aload_n F dX12_init_20 rfl ?_
  refine z_callV F (c_row n (nI d) f h.sy (by omega)) 0 rfl (lw_V q1233 q780 q781 q116 q782) (by decide +kernel) ⟨Nat.le_of_ble_eq_true rfl, Nat.le_of_ble_eq_true rfl⟩ ⟨by omega, by omega⟩ [0, 2, 3] 4 ⟨rfl, rfl, rfl, ⟨Or.inl rfl, Or.inr rfl, Or.inr rfl, trivial⟩⟩ (fun h => nomatch h) (Nat.le_of_ble_eq_true rfl) ⟨⟨Or.inr trivial, Or.inr rfl, Or.inl rfl, Or.inl rfl, trivial⟩, rfl, rfl, rfl, Nat.le_of_ble_eq_true rfl⟩ rfl zC5 rfl rfl dX12_init_21 (fun r_21 w_21 hp => ?_) (fun _ _ h => h.elim)
  obtain ⟨rfl, rfl⟩ := hp
  refine z_weq (w' := [zH, zO _ [zr _ _, zi _, zn, zn, zn, zi _], zO _ [zi _, zi _, zr _ _], zAi 0 24 _, zAi 0 _ _]) rfl ?_
  refine z_seq (S' := zr _ _ :: _) rfl ?_
  refine z_putF F zC12 (f := 2) rfl (Nat.le_of_ble_eq_true rfl) q1236 rfl hin rfl (fun _ => rfl) (fun _ => rfl) (Nat.le_of_ble_eq_true rfl) dX12_init_24 ?_
  refine z_weq (w' := [_, zO _ [_, _, _, _, _, _], _, _, _]) rfl ?_
  refine z_aload_n F dX12_init_27 rfl ?_
  refine z_aload_n F dX12_init_28 rfl ?_
  refine z_getN F zC5 (f := 0) rfl (Nat.le_of_ble_eq_true rfl) q238 rfl dX12_init_29 ?_
  refine z_newaI F _ 5 q174 (nI_pos (by omega)) (zcl_n (by omega)) (by omega) rfl (Nat.le_of_ble_eq_true rfl) ⟨trivial, rfl, rfl, trivial, trivial, trivial⟩ rfl rfl ⟨by omega, by omega⟩ dX12_init_32 ?_
  refine z_weq (w' := [_, _, _, _, _, _]) rfl ?_
  refine z_putF F zC12 (f := 3) rfl (Nat.le_of_ble_eq_true rfl) q1237 rfl hin rfl (fun _ => rfl) (fun _ => rfl) (Nat.le_of_ble_eq_true rfl) dX12_init_34 ?_
  refine z_weq (w' := [_, zO _ [_, _, _, _, _, _], _, _, _, _]) rfl ?_
  refine z_aload_n F dX12_init_37 rfl ?_
  refine z_aload_n F dX12_init_38 rfl ?_
  refine z_getN F zC5 (f := 0) rfl (Nat.le_of_ble_eq_true rfl) q238 rfl dX12_init_39 ?_
  refine z_newaI F _ 6 q174 (nI_pos (by omega)) (zcl_n (by omega)) (by omega) rfl (Nat.le_of_ble_eq_true rfl) ⟨trivial, rfl, rfl, trivial, trivial, trivial, trivial⟩ rfl rfl ⟨by omega, by omega⟩ dX12_init_42 ?_
  refine z_weq (w' := [_, _, _, _, _, _, _]) rfl ?_
  refine z_putF F zC12 (f := 4) rfl (Nat.le_of_ble_eq_true rfl) q1238 rfl hin rfl (fun _ => rfl) (fun _ => rfl) (Nat.le_of_ble_eq_true rfl) dX12_init_44 ?_
  refine z_weq (w' := [_, zO _ [_, _, _, _, _, _], _, _, _, _, _]) rfl ?_
  exact z_vret F E rfl dX12_init_47 (by omega) (by omega) (⟨rfl, rfl⟩)
theorem c_flRun (n w d : Nat) (f : Nat → Int32) (h : nok n d f) (hw : 1 ≤ w) (hw2 : w ≤ 24) : zCtr yX12_run cX12_run 1 (some .int) 14 0 0 [zr 1 0] [zH, eFo (nI w) (-1), eNet 3 (nI n) (nI d), zAi 0 24 f, zAi 0 (prs n f).length (rowA (prs n f) (fun _ => 0)), zAi 0 n (fun _ => 0), zAi 0 n (fun _ => 0)] (fun r v => ∃ l q Pl Bs, r = some (zi (nI l)) ∧ (n ≤ 8 → isMl n (LN n f w) (fun _ => True) (some (l, q))) ∧ (8 < n → q = clF n f w (LN n f w (fun i => i) + 1) (fun i => i) ∧ l = LN n f w q) ∧ (∀ i, i < n → Bs i = nI (q i)) ∧ v = [zH, eFo (nI w) (nI l), eNet 3 (nI n) (nI d), zAi 0 24 f, zAi 0 (prs n f).length (rowA (prs n f) (fun _ => 0)), zAi 0 n Pl, zAi 0 n Bs]) zNx := by
  refine z_start (by decide) [some (zr 1 0)] rfl (fun _ => Nat.le_of_ble_eq_true rfl) (fun _ => rfl) (fun X F E hno hin => ?_)
  have hn := h.n24
  have hn1 := h.n1
  have h96 := prs_96 h
  have hM0 : isMl n (LN n f w) (fun _ => False) none := ⟨fun r _ z => z.elim, fun l q e => by cases e⟩
  have hus : ∀ v, bt (nI 0) v = true ↔ ∃ i, i < 0 ∧ (fun i => i) i = v := fun v => by
    constructor
    · intro z
      rw [show bt (nI 0) v = false from b_0 v] at z; cases z
    · rintro ⟨i, hi, -⟩
      exact absurd hi (by omega)
  have hgo := c_flGo n w d (nI d) f h hw hw2 n 0 (nI 0) (fun i => i) (fun _ => False) none (-1) (fun _ => 0) (fun _ => 0) (by omega) (fun i hi => absurd hi (by omega)) (fun i j hi => absurd hi (by omega)) hus (fun i hi => absurd hi (by omega)) hM0 (fun r s _ z => z.elim) rfl
  have hB2 : ∀ B2 ls2 Bs2, flB B2 n ls2 Bs2 → isMl n (LN n f w) (fun r => False ∨ extP 0 (fun i => i) r) B2 → ∃ l q, ls2 = nI l ∧ isMl n (LN n f w) (fun _ => True) (some (l, q)) ∧ ∀ i, i < n → Bs2 i = nI (q i) := by
    intro B2 ls2 Bs2 r2 r3
    have r4 : isMl n (LN n f w) (fun _ => True) B2 := isMl_cg r3 (fun r hr => ⟨fun _ => trivial, fun _ => Or.inr (fun i hi => absurd hi (by omega))⟩)
    obtain ⟨l, q, rfl, -⟩ := r4.1 (fun i => i) (isP_id n) trivial
    exact ⟨l, q, r2.1, r4, r2.2.2⟩
  refine z_aload_n F dX12_run_0 rfl ?_
  refine z_get F zC12 (f := 0) rfl (Nat.le_of_ble_eq_true rfl) q1234 rfl dX12_run_1 ?_
  refine z_getN F zC5 (f := 0) rfl (Nat.le_of_ble_eq_true rfl) q238 rfl dX12_run_4 ?_
  refine z_bipush F (nI 8) dX12_run_7 rfl ?_
  refine z_icmp_gtN F (by omega) (by omega) (tgt := 22) dX12_run_9 (by decide) (fun c_9 => ?_) (fun c_9 => ?_)
  · refine z_aload_n F dX12_run_22 rfl ?_
    refine z_callV F (c_flDesc n w d (nI d) f (-1) _ _ _ h hw hw2 rfl) 0 rfl (lw_V q1270 q1272 qs29 q140 q1273) (by decide +kernel) ⟨Nat.le_of_ble_eq_true rfl, Nat.le_of_ble_eq_true rfl⟩ ⟨by omega, by omega⟩ [0, 1, 2, 3, 4, 5, 6] 7 ⟨rfl, rfl, rfl, ⟨Or.inl rfl, Or.inr rfl, Or.inr rfl, Or.inl rfl, Or.inr rfl, Or.inr rfl, Or.inr rfl, trivial⟩⟩ (fun h => nomatch h) (Nat.le_of_ble_eq_true rfl) ⟨⟨Or.inr trivial, Or.inl rfl, Or.inl rfl, Or.inr trivial, Or.inl rfl, Or.inl rfl, Or.inl rfl, trivial⟩, rfl, rfl, rfl, Nat.le_of_ble_eq_true rfl⟩ rfl zC12 rfl rfl dX12_run_23 (fun r_23 w_23 hp => ?_) (fun _ _ h => h.elim)
    obtain ⟨rfl, Pl2, Bs2, rfl, r3⟩ := hp
    refine z_weq (w' := [zH, zO _ [zr _ _, zi _, zr _ _, zr _ _, zr _ _, zi _], zO _ [zi _, zi _, zr _ _], zAi 0 24 _, zAi 0 (prs n f).length _, zAi 0 n _, zAi 0 n _]) rfl ?_
    refine z_seq (S' := []) rfl ?_
    refine z_aload_n F dX12_run_26 rfl ?_
    refine z_get F zC12 (f := 5) rfl (Nat.le_of_ble_eq_true rfl) q1240 rfl dX12_run_27 ?_
    exact z_iret F E rfl dX12_run_30 (by omega) (by omega) (⟨_, _, Pl2, Bs2, rfl, fun z => absurd z (by omega), fun _ => ⟨rfl, rfl⟩, r3, rfl⟩)
  · refine z_aload_n F dX12_run_12 rfl ?_
    refine z_iconst F (nI 0) dX12_run_13 rfl ?_
    refine z_iconst F (nI 0) dX12_run_14 rfl ?_
    refine z_iconst F (nI 0) dX12_run_15 rfl ?_
    refine z_callV F (hgo) 3 rfl (lw_V q1258 q1260 qs27 q140 q1261) (by decide +kernel) ⟨by omega, Nat.le_of_ble_eq_true rfl⟩ ⟨by omega, by omega⟩ [0, 1, 2, 3, 4, 5, 6] 7 ⟨rfl, rfl, rfl, ⟨Or.inl rfl, Or.inr rfl, Or.inr rfl, Or.inr rfl, Or.inl rfl, Or.inr rfl, Or.inr rfl, trivial⟩⟩ (fun h => nomatch h) (Nat.le_of_ble_eq_true rfl) ⟨⟨Or.inr trivial, Or.inl rfl, Or.inl rfl, Or.inl rfl, Or.inr trivial, Or.inl rfl, Or.inl rfl, trivial⟩, rfl, rfl, rfl, Nat.le_of_ble_eq_true rfl⟩ rfl zC12 rfl rfl dX12_run_16 (fun r_16 w_16 hp => ?_) (fun _ _ h => h.elim)
    obtain ⟨rfl, ls2, Pl2, Bs2, B2, rfl, r1, r2, r3⟩ := hp
    obtain ⟨l, q, rfl, r4, r5⟩ := hB2 B2 ls2 Bs2 r2 r3
    refine z_weq (w' := [zH, zO _ [zr _ _, zi _, zr _ _, zr _ _, zr _ _, zi _], zO _ [zi _, zi _, zr _ _], zAi 0 24 _, zAi 0 (prs n f).length _, zAi 0 n _, zAi 0 n _]) rfl ?_
    refine z_seq (S' := []) rfl ?_
    refine z_goto F (tgt := 26) dX12_run_19 (by decide) ?_
    refine z_aload_n F dX12_run_26 rfl ?_
    refine z_get F zC12 (f := 5) rfl (Nat.le_of_ble_eq_true rfl) q1240 rfl dX12_run_27 ?_
    exact z_iret F E rfl dX12_run_30 (by omega) (by omega) (⟨l, q, Pl2, Bs2, rfl, fun _ => r4, fun z => absurd z (by omega), r5, rfl⟩)
abbrev xO2 (t : Nat) (fp : Int32) (k : Nat) : zE := zO 1 [zr 0 0, zr 2 0, zr 3 0, zr 5 0, zr 9 0, zi (nI t), zi fp, zr 11 0, zr k 0]
abbrev xH2 (P : zPt) (t : Nat) (fp : Int32) (n : Nat) (g : Nat → Int32) : List zE := [zPl (pR P) P, xO2 t fp 27, zH, zH, zH, zH, zH, zH, zH, zH, zH, zH, zH, zH, zH, zH, zH, zH, zH, zH, zH, zH, zH, zH, zH, zH, zH, zAi 0 n g]
theorem c_play (P : zPt) (t : Nat) (fp : Int32) (j n w d : Nat) (f : Nat → Int32) (hw : 1 ≤ w) (hw2 : w ≤ 24) (hj : j < 8) (h : nok n d f) (hP : P j = some (nI n, nI d, f)) : zCtr yX1_lay cX1_lay 6 (some .int) 15 6 300 [zr 1 0, zi (nI j), zi (nI w)] (xH P t fp) (fun r v => ∃ l q Bs, r = some (zi (nI l)) ∧ (n ≤ 8 → isMl n (LN n f w) (fun _ => True) (some (l, q))) ∧ (8 < n → q = clF n f w (LN n f w (fun i => i) + 1) (fun i => i) ∧ l = LN n f w q) ∧ (∀ i, i < n → Bs i = nI (q i)) ∧ v = xH2 P t fp n Bs) zNx := by
  refine z_start (by decide) [some (zr 1 0), some (zi (nI j)), some (zi (nI w)), none, none, none] rfl (fun _ => Nat.le_of_ble_eq_true rfl) (fun _ => rfl) (fun X F E hno hin => ?_)
  have h1 := h.n1
  have h24 := h.n24
  refine z_aload_n F dX1_lay_0 rfl ?_
  refine z_iload_n F dX1_lay_1 rfl ?_
  refine z_callV F (c_netAt_ok P t fp j hj hP) 1 rfl (lw_V q429 q431 qs0 q109 q432) (by decide +kernel) ⟨Nat.le_of_ble_eq_true rfl, Nat.le_of_ble_eq_true rfl⟩ ⟨by omega, by omega⟩ [0, 1, 2, 3, 4, 5, 6, 7, 8, 9, 10, 11, 12, 13, 14, 15, 16, 17, 18, 19, 20, 21] 22 ⟨rfl, rfl, rfl, ⟨Or.inr (congrArg some (zrnP rfl).symm), Or.inr rfl, Or.inl rfl, Or.inl rfl, Or.inl rfl, Or.inl rfl, Or.inl rfl, Or.inl rfl, Or.inl rfl, Or.inl rfl, Or.inl rfl, Or.inl rfl, Or.inl rfl, Or.inl rfl, Or.inl rfl, Or.inl rfl, Or.inl rfl, Or.inl rfl, Or.inl rfl, Or.inl rfl, Or.inl rfl, Or.inl rfl, trivial⟩⟩ (fun _ => rfl) (Nat.le_of_ble_eq_true rfl) ⟨⟨Or.inl rfl, Or.inl rfl, Or.inr trivial, Or.inr trivial, Or.inr trivial, Or.inr trivial, Or.inr trivial, Or.inr trivial, Or.inr trivial, Or.inr trivial, Or.inr trivial, Or.inr trivial, Or.inr trivial, Or.inr trivial, Or.inr trivial, Or.inr trivial, Or.inr trivial, Or.inr trivial, Or.inr trivial, Or.inr trivial, Or.inr trivial, Or.inr trivial, trivial⟩, rfl, rfl, rfl, Nat.le_of_ble_eq_true rfl⟩ rfl zC1 rfl rfl dX1_lay_2 (fun r_2 w_2 hp => ?_) (fun _ _ h => h.elim)
  obtain ⟨rfl, rfl⟩ := hp
  refine z_weq (w' := zPl (pR _) _ :: _) (congrArg (fun z => z :: _) (zrnP rfl)) ?_
  refine z_weq (w' := [zPl _ _, zO _ [zr _ _, zr _ _, zr _ _, zr _ _, zr _ _, zi _, zi _, zr _ _, zr _ _], zH, zH, zH, zH, zH, zH, zH, zH, zH, zH, zH, zH, zH, zH, zH, zH, zH, zH, zH, zH]) rfl ?_
  refine z_seq (S' := zr _ _ :: _) rfl ?_
  refine z_astore_n F dX1_lay_5 (Nat.le_of_ble_eq_true rfl) ?_
  refine z_leq (L' := [_, _, _, _, _, _]) rfl ?_
  refine z_foc F j hj hP (N := 22) (M := 23) (L' := [_, _, _, some (zr 22 0), _, _]) (S' := []) rfl rfl (Nat.le_of_ble_eq_true rfl) ⟨rfl, trivial, trivial, trivial, trivial, trivial, trivial, trivial, trivial, trivial, trivial, trivial, trivial, trivial, trivial, trivial, trivial, trivial, trivial, trivial, trivial, trivial⟩ ⟨Or.inl rfl, Or.inl rfl, Or.inl rfl, Or.inr ⟨rfl, rfl⟩, Or.inl rfl, Or.inl rfl, trivial⟩ rfl trivial rfl ?_
  refine z_weq (w' := [zPl _ _, zO _ [zr _ _, zr _ _, zr _ _, zr _ _, zr _ _, zi _, zi _, zr _ _, zr _ _], zH, zH, zH, zH, zH, zH, zH, zH, zH, zH, zH, zH, zH, zH, zH, zH, zH, zH, zH, zH, zO _ [zi _, zi _, zr _ _], zAi 0 24 _]) rfl ?_
  refine z_iload_n F dX1_lay_6 rfl ?_
  refine z_iconst F (nI 1) dX1_lay_7 rfl ?_
  refine z_bipush F (nI 24) dX1_lay_8 rfl ?_
  refine z_callS F (c_in (nI w) (nI 1) (nI 24)) 3 rfl (lw_S q349 q350 q109 q351) (by decide +kernel) ⟨Nat.le_of_ble_eq_true rfl, Nat.le_of_ble_eq_true rfl⟩ ⟨by omega, by omega⟩ [0] 24 ⟨rfl, rfl, rfl, ⟨Or.inl rfl, trivial⟩⟩ (fun h => nomatch h) (Nat.le_of_ble_eq_true rfl) ⟨⟨Or.inr (by first | exact ⟨rfl, pR_B _ (by decide)⟩ | exact ⟨rfl, uR_B (by decide) (by decide)⟩), Or.inr rfl, Or.inr trivial, Or.inr trivial, Or.inr trivial, Or.inr trivial, Or.inr trivial, Or.inr trivial, Or.inr trivial, Or.inr trivial, Or.inr trivial, Or.inr trivial, Or.inr trivial, Or.inr trivial, Or.inr trivial, Or.inr trivial, Or.inr trivial, Or.inr trivial, Or.inr trivial, Or.inr trivial, Or.inr trivial, Or.inr trivial, Or.inr rfl, Or.inr trivial, trivial⟩, rfl, rfl, rfl, Nat.le_of_ble_eq_true rfl⟩ rfl rfl dX1_lay_10 (fun r_10 w_10 hp => ?_) (fun _ _ h => h.elim)
  obtain ⟨rfl, rfl⟩ := hp
  refine z_weq (w' := [zPl _ _, zO _ [zr _ _, zr _ _, zr _ _, zr _ _, zr _ _, zi _, zi _, zr _ _, zr _ _], zH, zH, zH, zH, zH, zH, zH, zH, zH, zH, zH, zH, zH, zH, zH, zH, zH, zH, zH, zH, zO _ [zi _, zi _, zr _ _], zAi 0 24 _]) rfl ?_
  refine z_seq (S' := zi _ :: _) rfl ?_
  rw [show inB (nI w) (nI 1) (nI 24) = true from inB_n (by omega) hw hw2]
  refine z_callS F (c_rgt true) 1 rfl (lw_S q538 q539 q109 q540) (by decide +kernel) ⟨Nat.le_of_ble_eq_true rfl, Nat.le_of_ble_eq_true rfl⟩ ⟨by omega, by omega⟩ [0] 24 ⟨rfl, rfl, rfl, ⟨Or.inl rfl, trivial⟩⟩ (fun h => nomatch h) (Nat.le_of_ble_eq_true rfl) ⟨⟨Or.inr (by first | exact ⟨rfl, pR_B _ (by decide)⟩ | exact ⟨rfl, uR_B (by decide) (by decide)⟩), Or.inr rfl, Or.inr trivial, Or.inr trivial, Or.inr trivial, Or.inr trivial, Or.inr trivial, Or.inr trivial, Or.inr trivial, Or.inr trivial, Or.inr trivial, Or.inr trivial, Or.inr trivial, Or.inr trivial, Or.inr trivial, Or.inr trivial, Or.inr trivial, Or.inr trivial, Or.inr trivial, Or.inr trivial, Or.inr trivial, Or.inr trivial, Or.inr rfl, Or.inr trivial, trivial⟩, rfl, rfl, rfl, Nat.le_of_ble_eq_true rfl⟩ rfl rfl dX1_lay_13 (fun r_13 w_13 hp => ?_) (fun E_ w_ hx => by obtain ⟨-, hb, -⟩ := hx; cases hb)
  obtain ⟨rfl, -, rfl⟩ := hp
  refine z_weq (w' := [zPl _ _, zO _ [zr _ _, zr _ _, zr _ _, zr _ _, zr _ _, zi _, zi _, zr _ _, zr _ _], zH, zH, zH, zH, zH, zH, zH, zH, zH, zH, zH, zH, zH, zH, zH, zH, zH, zH, zH, zH, zO _ [zi _, zi _, zr _ _], zAi 0 24 _]) rfl ?_
  refine z_seq (S' := []) rfl ?_
  refine z_new F 24 [zn, zi 0, zn, zn, zn, zi 0] zC12 q1227 q1228 q140 (fun _ j hj => by match j, hj with | 0, _ => rfl | 1, _ => rfl | 2, _ => rfl | 3, _ => rfl | 4, _ => rfl | 5, _ => rfl) rfl (Nat.le_of_ble_eq_true rfl) (Nat.le_of_ble_eq_true rfl) ⟨(by first | exact pR_N _ (Nat.le_of_ble_eq_true rfl) | exact uR_N (Nat.le_of_ble_eq_true rfl) (Nat.le_of_ble_eq_true rfl)), rfl, trivial, trivial, trivial, trivial, trivial, trivial, trivial, trivial, trivial, trivial, trivial, trivial, trivial, trivial, trivial, trivial, trivial, trivial, trivial, trivial, rfl, trivial, trivial⟩ rfl rfl ⟨by omega, by omega⟩ dX1_lay_16 ?_
  refine z_weq (w' := [_, _, _, _, _, _, _, _, _, _, _, _, _, _, _, _, _, _, _, _, _, _, _, _, _]) rfl ?_
  refine z_dup F dX1_lay_19 rfl ?_
  refine z_aload_n F dX1_lay_20 rfl ?_
  refine z_iload_n F dX1_lay_21 rfl ?_
  refine z_callI F (c_flInit n w d f h) 2 rfl (lw_meth q1231) q140 q1229 q1230 rfl (by decide +kernel) ⟨Nat.le_of_ble_eq_true rfl, Nat.le_of_ble_eq_true rfl⟩ ⟨by omega, by omega⟩ [0, 24, 22, 23] 25 ⟨rfl, rfl, rfl, ⟨Or.inl rfl, Or.inr rfl, Or.inr rfl, Or.inr rfl, trivial⟩⟩ (fun h => nomatch h) (Nat.le_of_ble_eq_true rfl) ⟨⟨Or.inr (by first | exact ⟨rfl, pR_B _ (by decide)⟩ | exact ⟨rfl, uR_B (by decide) (by decide)⟩), Or.inr rfl, Or.inr trivial, Or.inr trivial, Or.inr trivial, Or.inr trivial, Or.inr trivial, Or.inr trivial, Or.inr trivial, Or.inr trivial, Or.inr trivial, Or.inr trivial, Or.inr trivial, Or.inr trivial, Or.inr trivial, Or.inr trivial, Or.inr trivial, Or.inr trivial, Or.inr trivial, Or.inr trivial, Or.inr trivial, Or.inr trivial, Or.inl rfl, Or.inl rfl, Or.inl rfl, trivial⟩, rfl, rfl, rfl, Nat.le_of_ble_eq_true rfl⟩ rfl rfl dX1_lay_22 (fun r_22 w_22 hp => ?_) (fun _ _ h => h.elim)
  obtain ⟨rfl, rfl⟩ := hp
  refine z_weq (w' := [zPl _ _, zO _ [zr _ _, zr _ _, zr _ _, zr _ _, zr _ _, zi _, zi _, zr _ _, zr _ _], zH, zH, zH, zH, zH, zH, zH, zH, zH, zH, zH, zH, zH, zH, zH, zH, zH, zH, zH, zH, zO _ [zi _, zi _, zr _ _], zAi 0 24 _, zO _ [zr _ _, zi _, zr _ _, zr _ _, zr _ _, zi _], zAi 0 _ _, zAi 0 _ _, zAi 0 _ _]) rfl ?_
  refine z_seq (S' := [_]) rfl ?_
  refine z_astore F dX1_lay_25 (Nat.le_of_ble_eq_true rfl) ?_
  refine z_leq (L' := [_, _, _, _, _, _]) rfl ?_
  refine z_aload F dX1_lay_27 rfl ?_
  refine z_callV F (c_flRun n w d f h hw hw2) 0 rfl (lw_V q1254 q1255 q1256 q140 q1257) (by decide +kernel) ⟨Nat.le_of_ble_eq_true rfl, Nat.le_of_ble_eq_true rfl⟩ ⟨by omega, by omega⟩ [0, 24, 22, 23, 25, 26, 27] 28 ⟨rfl, rfl, rfl, ⟨Or.inl rfl, Or.inr rfl, Or.inr rfl, Or.inr rfl, Or.inr rfl, Or.inr rfl, Or.inr rfl, trivial⟩⟩ (fun h => nomatch h) (Nat.le_of_ble_eq_true rfl) ⟨⟨Or.inr (by first | exact ⟨rfl, pR_B _ (by decide)⟩ | exact ⟨rfl, uR_B (by decide) (by decide)⟩), Or.inr rfl, Or.inr trivial, Or.inr trivial, Or.inr trivial, Or.inr trivial, Or.inr trivial, Or.inr trivial, Or.inr trivial, Or.inr trivial, Or.inr trivial, Or.inr trivial, Or.inr trivial, Or.inr trivial, Or.inr trivial, Or.inr trivial, Or.inr trivial, Or.inr trivial, Or.inr trivial, Or.inr trivial, Or.inr trivial, Or.inr trivial, Or.inl rfl, Or.inl rfl, Or.inl rfl, Or.inl rfl, Or.inl rfl, Or.inl rfl, trivial⟩, rfl, rfl, rfl, Nat.le_of_ble_eq_true rfl⟩ rfl zC12 rfl rfl dX1_lay_29 (fun r_29 w_29 hp => ?_) (fun _ _ h => h.elim)
  obtain ⟨l, q, Pl, Bs, rfl, r1, r2, r3, rfl⟩ := hp
  refine z_weq (w' := [zPl _ _, zO _ [zr _ _, zr _ _, zr _ _, zr _ _, zr _ _, zi _, zi _, zr _ _, zr _ _], zH, zH, zH, zH, zH, zH, zH, zH, zH, zH, zH, zH, zH, zH, zH, zH, zH, zH, zH, zH, zO _ [zi _, zi _, zr _ _], zAi 0 24 _, zO _ [zr _ _, zi _, zr _ _, zr _ _, zr _ _, zi _], zAi 0 _ _, zAi 0 _ _, zAi 0 _ _]) rfl ?_
  refine z_seq (S' := zi _ :: _) rfl ?_
  refine z_istore F dX1_lay_32 (Nat.le_of_ble_eq_true rfl) ?_
  refine z_leq (L' := [_, _, _, _, _, _]) rfl ?_
  refine z_aload_n F dX1_lay_34 rfl ?_
  refine z_aload F dX1_lay_35 rfl ?_
  refine z_getN F zC12 (f := 4) rfl (Nat.le_of_ble_eq_true rfl) q1239 rfl dX1_lay_37 ?_
  refine z_put F zC1 (f := 8) rfl (Nat.le_of_ble_eq_true rfl) q322 rfl (fun _ => rfl) (fun _ => rfl) (Nat.le_of_ble_eq_true rfl) dX1_lay_40 ?_
  refine z_weq (w' := [_, zO _ [_, _, _, _, _, _, _, _, _], _, _, _, _, _, _, _, _, _, _, _, _, _, _, _, _, _, _, _, _, _, _, _, _, _, _]) rfl ?_
  refine z_unfocusH F rfl j 22 23 hj zput_self rfl rfl (Nat.le_of_ble_eq_true rfl) (Nat.le_of_ble_eq_true rfl) [zO _ [zr _ _, zr _ _, zr _ _, zr _ _, zr _ _, zi _, zi _, zr _ _, zr _ _], zH, zH, zH, zH, zH, zH, zH, zH, zH, zH, zH, zH, zH, zH, zH, zH, zH, zH, zH, zH, zH, zH, zO _ [zr _ _, zi _, zr _ _, zr _ _, zr _ _, zi _], zAi 0 _ _, zAi 0 _ _, zAi 0 _ _] rfl ⟨Nat.le_of_ble_eq_true rfl, Nat.le_of_ble_eq_true rfl⟩ ⟨rfl, trivial, trivial, trivial, trivial, trivial, trivial, trivial, trivial, trivial, trivial, trivial, trivial, trivial, trivial, trivial, trivial, trivial, trivial, trivial, trivial, trivial, trivial, rfl, trivial, trivial, trivial, trivial⟩ uOV rfl rfl ?_
  refine z_weq (w' := zPl (pR P) P :: _) (congrArg (fun z => z :: _) (uPl3 hP)) ?_
  refine z_forget F 24 (w' := [zPl _ _, zO _ [zr _ _, zr _ _, zr _ _, zr _ _, zr _ _, zi _, zi _, zr _ _, zr _ _], zH, zH, zH, zH, zH, zH, zH, zH, zH, zH, zH, zH, zH, zH, zH, zH, zH, zH, zH, zH, zH, zH, zH, zAi 0 _ _, zAi 0 _ _, zAi 0 _ _]) rfl ?_
  refine z_forget F 25 (w' := [zPl _ _, zO _ [zr _ _, zr _ _, zr _ _, zr _ _, zr _ _, zi _, zi _, zr _ _, zr _ _], zH, zH, zH, zH, zH, zH, zH, zH, zH, zH, zH, zH, zH, zH, zH, zH, zH, zH, zH, zH, zH, zH, zH, zH, zAi 0 _ _, zAi 0 _ _]) rfl ?_
  refine z_forget F 26 (w' := [zPl _ _, zO _ [zr _ _, zr _ _, zr _ _, zr _ _, zr _ _, zi _, zi _, zr _ _, zr _ _], zH, zH, zH, zH, zH, zH, zH, zH, zH, zH, zH, zH, zH, zH, zH, zH, zH, zH, zH, zH, zH, zH, zH, zH, zH, zAi 0 _ _]) rfl ?_
  refine z_iload F dX1_lay_43 rfl ?_
  exact z_iret F E rfl dX1_lay_45 (by omega) (by omega) (⟨l, q, Bs, rfl, r1, r2, r3, rfl⟩)
theorem c_play_bad (P : zPt) (t : Nat) (fp : Int32) (j n d : Nat) (f : Nat → Int32) (w : Int32) (hx : inB w (nI 1) (nI 24) = false) (hj : j < 8) (h : nok n d f) (hP : P j = some (nI n, nI d, f)) : zCtr yX1_lay cX1_lay 6 (some .int) 15 6 300 [zr 1 0, zi (nI j), zi w] (xH P t fp) (fun r v => False) (fun E w => E = eIAE ∧ True ∧ w = xH P t fp) := by
  refine z_start (by decide) [some (zr 1 0), some (zi (nI j)), some (zi w), none, none, none] rfl (fun _ => Nat.le_of_ble_eq_true rfl) (fun _ => rfl) (fun X F E hno hin => ?_)
  refine z_aload_n F dX1_lay_0 rfl ?_
  refine z_iload_n F dX1_lay_1 rfl ?_
  refine z_callV F (c_netAt_ok P t fp j hj hP) 1 rfl (lw_V q429 q431 qs0 q109 q432) (by decide +kernel) ⟨Nat.le_of_ble_eq_true rfl, Nat.le_of_ble_eq_true rfl⟩ ⟨by omega, by omega⟩ [0, 1, 2, 3, 4, 5, 6, 7, 8, 9, 10, 11, 12, 13, 14, 15, 16, 17, 18, 19, 20, 21] 22 ⟨rfl, rfl, rfl, ⟨Or.inr (congrArg some (zrnP rfl).symm), Or.inr rfl, Or.inl rfl, Or.inl rfl, Or.inl rfl, Or.inl rfl, Or.inl rfl, Or.inl rfl, Or.inl rfl, Or.inl rfl, Or.inl rfl, Or.inl rfl, Or.inl rfl, Or.inl rfl, Or.inl rfl, Or.inl rfl, Or.inl rfl, Or.inl rfl, Or.inl rfl, Or.inl rfl, Or.inl rfl, Or.inl rfl, trivial⟩⟩ (fun _ => rfl) (Nat.le_of_ble_eq_true rfl) ⟨⟨Or.inl rfl, Or.inl rfl, Or.inr trivial, Or.inr trivial, Or.inr trivial, Or.inr trivial, Or.inr trivial, Or.inr trivial, Or.inr trivial, Or.inr trivial, Or.inr trivial, Or.inr trivial, Or.inr trivial, Or.inr trivial, Or.inr trivial, Or.inr trivial, Or.inr trivial, Or.inr trivial, Or.inr trivial, Or.inr trivial, Or.inr trivial, Or.inr trivial, trivial⟩, rfl, rfl, rfl, Nat.le_of_ble_eq_true rfl⟩ rfl zC1 rfl rfl dX1_lay_2 (fun r_2 w_2 hp => ?_) (fun _ _ h => h.elim)
  obtain ⟨rfl, rfl⟩ := hp
  refine z_weq (w' := zPl (pR _) _ :: _) (congrArg (fun z => z :: _) (zrnP rfl)) ?_
  refine z_weq (w' := [zPl _ _, zO _ [zr _ _, zr _ _, zr _ _, zr _ _, zr _ _, zi _, zi _, zr _ _, zr _ _], zH, zH, zH, zH, zH, zH, zH, zH, zH, zH, zH, zH, zH, zH, zH, zH, zH, zH, zH, zH]) rfl ?_
  refine z_seq (S' := zr _ _ :: _) rfl ?_
  refine z_astore_n F dX1_lay_5 (Nat.le_of_ble_eq_true rfl) ?_
  refine z_leq (L' := [_, _, _, _, _, _]) rfl ?_
  refine z_foc F j hj hP (N := 22) (M := 23) (L' := [_, _, _, some (zr 22 0), _, _]) (S' := []) rfl rfl (Nat.le_of_ble_eq_true rfl) ⟨rfl, trivial, trivial, trivial, trivial, trivial, trivial, trivial, trivial, trivial, trivial, trivial, trivial, trivial, trivial, trivial, trivial, trivial, trivial, trivial, trivial, trivial⟩ ⟨Or.inl rfl, Or.inl rfl, Or.inl rfl, Or.inr ⟨rfl, rfl⟩, Or.inl rfl, Or.inl rfl, trivial⟩ rfl trivial rfl ?_
  refine z_weq (w' := [zPl _ _, zO _ [zr _ _, zr _ _, zr _ _, zr _ _, zr _ _, zi _, zi _, zr _ _, zr _ _], zH, zH, zH, zH, zH, zH, zH, zH, zH, zH, zH, zH, zH, zH, zH, zH, zH, zH, zH, zH, zO _ [zi _, zi _, zr _ _], zAi 0 24 _]) rfl ?_
  refine z_iload_n F dX1_lay_6 rfl ?_
  refine z_iconst F (nI 1) dX1_lay_7 rfl ?_
  refine z_bipush F (nI 24) dX1_lay_8 rfl ?_
  refine z_callS F (c_in w (nI 1) (nI 24)) 3 rfl (lw_S q349 q350 q109 q351) (by decide +kernel) ⟨Nat.le_of_ble_eq_true rfl, Nat.le_of_ble_eq_true rfl⟩ ⟨by omega, by omega⟩ [0] 24 ⟨rfl, rfl, rfl, ⟨Or.inl rfl, trivial⟩⟩ (fun h => nomatch h) (Nat.le_of_ble_eq_true rfl) ⟨⟨Or.inr (by first | exact ⟨rfl, pR_B _ (by decide)⟩ | exact ⟨rfl, uR_B (by decide) (by decide)⟩), Or.inr rfl, Or.inr trivial, Or.inr trivial, Or.inr trivial, Or.inr trivial, Or.inr trivial, Or.inr trivial, Or.inr trivial, Or.inr trivial, Or.inr trivial, Or.inr trivial, Or.inr trivial, Or.inr trivial, Or.inr trivial, Or.inr trivial, Or.inr trivial, Or.inr trivial, Or.inr trivial, Or.inr trivial, Or.inr trivial, Or.inr trivial, Or.inr rfl, Or.inr trivial, trivial⟩, rfl, rfl, rfl, Nat.le_of_ble_eq_true rfl⟩ rfl rfl dX1_lay_10 (fun r_10 w_10 hp => ?_) (fun _ _ h => h.elim)
  obtain ⟨rfl, rfl⟩ := hp
  refine z_weq (w' := [zPl _ _, zO _ [zr _ _, zr _ _, zr _ _, zr _ _, zr _ _, zi _, zi _, zr _ _, zr _ _], zH, zH, zH, zH, zH, zH, zH, zH, zH, zH, zH, zH, zH, zH, zH, zH, zH, zH, zH, zH, zO _ [zi _, zi _, zr _ _], zAi 0 24 _]) rfl ?_
  refine z_seq (S' := zi _ :: _) rfl ?_
  rw [hx]
  refine z_callS F (c_rgt false) 1 rfl (lw_S q538 q539 q109 q540) (by decide +kernel) ⟨Nat.le_of_ble_eq_true rfl, Nat.le_of_ble_eq_true rfl⟩ ⟨by omega, by omega⟩ [0] 24 ⟨rfl, rfl, rfl, ⟨Or.inl rfl, trivial⟩⟩ (fun h => nomatch h) (Nat.le_of_ble_eq_true rfl) ⟨⟨Or.inr (by first | exact ⟨rfl, pR_B _ (by decide)⟩ | exact ⟨rfl, uR_B (by decide) (by decide)⟩), Or.inr rfl, Or.inr trivial, Or.inr trivial, Or.inr trivial, Or.inr trivial, Or.inr trivial, Or.inr trivial, Or.inr trivial, Or.inr trivial, Or.inr trivial, Or.inr trivial, Or.inr trivial, Or.inr trivial, Or.inr trivial, Or.inr trivial, Or.inr trivial, Or.inr trivial, Or.inr trivial, Or.inr trivial, Or.inr trivial, Or.inr trivial, Or.inr rfl, Or.inr trivial, trivial⟩, rfl, rfl, rfl, Nat.le_of_ble_eq_true rfl⟩ rfl rfl dX1_lay_13 (fun r_13 w_13 hp => ?_) (fun E_ w_ hx => by obtain ⟨rfl, hb, rfl⟩ := hx; exact zx_pub F rfl E hno j 22 23 hj hP rfl rfl (Nat.le_of_ble_eq_true rfl) (Nat.le_of_ble_eq_true rfl) (Nat.le_of_ble_eq_true rfl) _ rfl ⟨rfl, trivial, trivial, trivial, trivial, trivial, trivial, trivial, trivial, trivial, trivial, trivial, trivial, trivial, trivial, trivial, trivial, trivial, trivial, trivial, trivial, trivial⟩ (Nat.le_of_ble_eq_true rfl) (by omega) (by omega) (⟨rfl, trivial, rfl⟩))
  exact nomatch hp.2.1
theorem c_mlay_bad (F0 : Nat → Int32) (G : Nat → Int64) (A : Nat → Nat → Int32) (B : Nat → Nat → Int64) (j n d : Nat) (f : Nat → Int32) (w : Int32) (hj : j < 8) (h : nok n d f) (hs : Slt A j n (nI d) f) (hx : inB w (nI 1) (nI 24) = false) :
    zCtr yX6_lay cX6_lay 5 (some .int) 4 0 0 [zr 1 0, zi (nI j), zi w] [zH, zG F0 G A B] (fun r w => r = some (zi (nI 0)) ∧ ∃ F' A', w = [zH, zG F' G A' B] ∧ F' 0 = nI 2 ∧ frm [0, 4, 5] F0 F' ∧ frm [6] A A') zNx := by
  refine z_start (by decide) [some (zr 1 0), some (zi (nI j)), some (zi w), none, none] rfl (fun _ => Nat.le_of_ble_eq_true rfl) (fun _ => rfl) (fun X F E hno hin => ?_)
  have hn1 := h.n1
  have h24 := h.n24
  refine z_aload_n F dX6_lay_0 rfl ?_
  refine z_iload_n F dX6_lay_1 rfl ?_
  refine z_callV F (c_lays_ok _ _ _ _ j n (nI d) f hj (by omega) h.n24 hs) 1 rfl (lw_V q1732 q1734 qs42 q117 q1735) (by decide +kernel) ⟨Nat.le_of_ble_eq_true rfl, Nat.le_of_ble_eq_true rfl⟩ ⟨by omega, by omega⟩ [0, 1] 2 ⟨rfl, rfl, rfl, ⟨Or.inl rfl, Or.inr rfl, trivial⟩⟩ (fun h => nomatch h) (Nat.le_of_ble_eq_true rfl) ⟨⟨Or.inr trivial, Or.inl rfl, trivial⟩, rfl, rfl, rfl, Nat.le_of_ble_eq_true rfl⟩ rfl zC6 (zat_G0 rfl) rfl dX6_lay_2 (fun r_2 w_2 hp => ?_) (fun _ _ h => h.elim)
  obtain ⟨rfl, F1, A1, rfl, f0, f1, f2, f3⟩ := hp
  refine z_weq (w' := [zH, zG _ _ _ _]) rfl ?_
  refine z_seq (S' := zi _ :: _) rfl ?_
  refine z_if_eqB F (tgt := 23) dX6_lay_5 (by decide) (fun c_5 => ?_) (fun c_5 => ?_)
  · cases c_5
  · refine z_aload_n F dX6_lay_8 rfl ?_
    refine z_iload_n F dX6_lay_9 rfl ?_
    refine z_iconst F (nI 1) dX6_lay_10 rfl ?_
    refine z_bipush F (nI 24) dX6_lay_11 rfl ?_
    refine z_callS F (c_within w (nI 1) (nI 24)) 3 rfl (lw_S q1717 q1718 q117 q1719) (by decide +kernel) ⟨Nat.le_of_ble_eq_true rfl, Nat.le_of_ble_eq_true rfl⟩ ⟨by omega, by omega⟩ [0] 2 ⟨rfl, rfl, rfl, ⟨Or.inl rfl, trivial⟩⟩ (fun h => nomatch h) (Nat.le_of_ble_eq_true rfl) ⟨⟨Or.inr trivial, Or.inr trivial, trivial⟩, rfl, rfl, rfl, Nat.le_of_ble_eq_true rfl⟩ rfl rfl dX6_lay_13 (fun r_13 w_13 hp => ?_) (fun _ _ h => h.elim)
    obtain ⟨rfl, rfl⟩ := hp
    refine z_weq (w' := [zH, zG _ _ _ _]) rfl ?_
    refine z_seq (S' := zi _ :: _) rfl ?_
    rw [hx]
    refine z_iconst F (nI 2) dX6_lay_16 rfl ?_
    refine z_callV F (c_right _ _ _ _ false 2 f0 (by omega) (by omega)) 2 rfl (lw_V q1736 q1738 qs43 q117 q1739) (by decide +kernel) ⟨Nat.le_of_ble_eq_true rfl, Nat.le_of_ble_eq_true rfl⟩ ⟨by omega, by omega⟩ [0, 1] 2 ⟨rfl, rfl, rfl, ⟨Or.inl rfl, Or.inr rfl, trivial⟩⟩ (fun h => nomatch h) (Nat.le_of_ble_eq_true rfl) ⟨⟨Or.inr trivial, Or.inl rfl, trivial⟩, rfl, rfl, rfl, Nat.le_of_ble_eq_true rfl⟩ rfl zC6 (zat_G0 rfl) rfl dX6_lay_17 (fun r_17 w_17 hp => ?_) (fun _ _ h => h.elim)
    obtain ⟨rfl, rfl⟩ := hp
    refine z_weq (w' := [zH, zG _ _ _ _]) rfl ?_
    refine z_seq (S' := zi _ :: _) rfl ?_
    refine z_if_neB F (tgt := 25) dX6_lay_20 (by decide) (fun c_20 => ?_) (fun c_20 => ?_)
    · cases c_20
    · refine z_iconst F (nI 0) dX6_lay_23 rfl ?_
      exact z_iret F E rfl dX6_lay_24 (by omega) (by omega) (⟨rfl, _, A1, rfl, rfl, frm_upd f1 (by decide), f2⟩)
theorem c_mlay_ok (F0 : Nat → Int32) (G : Nat → Int64) (A : Nat → Nat → Int32) (B : Nat → Nat → Int64) (j n d : Nat) (f : Nat → Int32) (w : Nat) (hj : j < 8) (h : nok n d f) (hs : Slt A j n (nI d) f) (hw : 1 ≤ w) (hw2 : w ≤ 24) :
    zCtr yX6_lay cX6_lay 5 (some .int) 4 0 0 [zr 1 0, zi (nI j), zi (nI w)] [zH, zG F0 G A B] (fun r v => ∃ l q F' A', r = some (zi (nI l)) ∧ (n ≤ 8 → isMl n (LN n f w) (fun _ => True) (some (l, q))) ∧ (8 < n → q = clF n f w (LN n f w (fun i => i) + 1) (fun i => i) ∧ l = LN n f w q) ∧ v = [zH, zG F' G A' B] ∧ F' 0 = nI 0 ∧ F' 60 = nI n ∧ (∀ i, i < n → A' 62 i = nI (q i)) ∧ frm [0, 4, 5, 20, 60, 61] F0 F' ∧ frm [6, 21, 22, 62, 63, 64] A A') zNx := by
  refine z_start (by decide) [some (zr 1 0), some (zi (nI j)), some (zi (nI w)), none, none] rfl (fun _ => Nat.le_of_ble_eq_true rfl) (fun _ => rfl) (fun X F E hno hin => ?_)
  have hn1 := h.n1
  have h24 := h.n24
  have fin : ∀ (l : Nat) (q : Nat → Nat) (F1 : Nat → Int32), F1 0 = nI 0 → F1 4 = nI n → F1 60 = nI n → frm [0, 4, 5, 20, 60, 61] F0 F1 → (n ≤ 8 → isMl n (LN n f w) (fun _ => True) (some (l, q))) → (8 < n → q = clF n f w (LN n f w (fun i => i) + 1) (fun i => i) ∧ l = LN n f w q) → ∀ (m k : Nat) (A1 : Nat → Nat → Int32), n - k < m → k ≤ n → frm [6, 21, 22, 62, 63, 64] A A1 → (∀ i, i < n → A1 63 i = nI (q i)) → (∀ i, i < k → A1 62 i = nI (q i)) → Z X [some (zr 1 0), none, none, some (zi (nI l)), some (zi (nI k))] [] [zH, zG F1 G A1 B] 0 0 89 := by
    intro l q F1 f0 f4 f60 hF q1 q2 m
    induction m with
    | zero => intro k A1 hm; omega
    | succ m ih =>
      intro k A1 hm hk hA h63 h62
      have t1 := fun z => h63 k z
      refine z_iload F dX6_lay_89 rfl ?_
      refine z_aload_n F dX6_lay_91 rfl ?_
      refine z_mi F rfl 4 rfl (Nat.le_of_ble_eq_true rfl) rfl q1484 dX6_lay_92 ?_
      refine z_ieq (f4) ?_
      refine z_icmp_geN F (by omega) (by omega) (tgt := 118) dX6_lay_95 (by decide) (fun c_95 => ?_) (fun c_95 => ?_)
      · refine z_iload_n F dX6_lay_118 rfl ?_
        exact z_iret F E rfl dX6_lay_119 (by omega) (by omega) (⟨l, q, F1, A1, rfl, q1, q2, rfl, f0, f60, fun i hi => h62 i (by omega), hF, hA⟩)
      · have t1 := t1 (by omega)
        refine z_aload_n F dX6_lay_98 rfl ?_
        refine z_ma F rfl 62 rfl (Nat.le_of_ble_eq_true rfl) rfl q1542 dX6_lay_99 ?_
        refine z_iload F dX6_lay_102 rfl ?_
        refine z_aload_n F dX6_lay_104 rfl ?_
        refine z_ma F rfl 63 rfl (Nat.le_of_ble_eq_true rfl) rfl q1543 dX6_lay_105 ?_
        refine z_iload F dX6_lay_108 rfl ?_
        refine z_ialdGN F rfl rfl (Nat.le_of_ble_eq_true rfl) (by omega) rfl dX6_lay_110 ?_
        refine z_iastGN F rfl rfl (Nat.le_of_ble_eq_true rfl) (by omega) dX6_lay_111 ?_
        refine z_weq (w' := [_, _]) rfl ?_
        refine z_iincN F 1 dX6_lay_112 rfl rfl ?_
        refine z_leq (L' := [_, _, _, _, _]) rfl ?_
        refine z_goto F (tgt := 89) dX6_lay_115 (by decide) ?_
        refine ih (k + 1) _ (by omega) (by omega) (frm_zup hA (by decide)) (fun i hi => h63 i hi) (fun i hi => ?_)
        rw [zup2_row]
        show (if i = k then _ else A1 62 i) = _
        by_cases e : i = k
        · rw [if_pos e, e]; exact t1
        · rw [if_neg e]; exact h62 i (by omega)
  have at57 : ∀ (F1 : Nat → Int32) (A1 : Nat → Nat → Int32), F1 0 = nI 0 → F1 4 = nI n → F1 20 = nI (prs n f).length → F1 61 = nI w → frm [0, 4, 5, 20, 60, 61] F0 F1 → LnE A1 (prs n f) → frm [6, 21, 22, 62, 63, 64] A A1 → (∀ i, i < n → A1 63 i = nI i) → Z X [some (zr 1 0), none, none, none, none] [] [zH, zG F1 G A1 B] 0 0 57 := by
    intro F1 A1 f0 f4 f20 f61 hF hL hA h63
    refine z_aload_n F dX6_lay_57 rfl ?_
    refine z_mi F rfl 4 rfl (Nat.le_of_ble_eq_true rfl) rfl q1484 dX6_lay_58 ?_
    refine z_ieq (f4) ?_
    refine z_bipush F (nI 8) dX6_lay_61 rfl ?_
    refine z_icmp_leN F (by omega) (by omega) (tgt := 73) dX6_lay_63 (by decide) (fun c_63 => ?_) (fun c_63 => ?_)
    · refine z_aload_n F dX6_lay_73 rfl ?_
      refine z_callV F (c_mgoes F1 G A1 B n w d f h hw hw2 h63 f4 f20 hL f61) 0 rfl (lw_V q2063 q2065 qs92 q117 q2066) (by decide +kernel) ⟨Nat.le_of_ble_eq_true rfl, Nat.le_of_ble_eq_true rfl⟩ ⟨by omega, by omega⟩ [0, 1] 2 ⟨rfl, rfl, rfl, ⟨Or.inl rfl, Or.inr rfl, trivial⟩⟩ (fun h => nomatch h) (Nat.le_of_ble_eq_true rfl) ⟨⟨Or.inr trivial, Or.inl rfl, trivial⟩, rfl, rfl, rfl, Nat.le_of_ble_eq_true rfl⟩ rfl zC6 (zat_G0 rfl) rfl dX6_lay_74 (fun r_74 w_74 hp => ?_) (fun _ _ h => h.elim)
      obtain ⟨l, q, A2, rfl, rfl, k1, k2, k3⟩ := hp
      refine z_weq (w' := [zH, zG _ _ _ _]) rfl ?_
      refine z_seq (S' := zi _ :: _) rfl ?_
      refine z_istore_n F dX6_lay_77 (Nat.le_of_ble_eq_true rfl) ?_
      refine z_leq (L' := [_, _, _, _, _]) rfl ?_
      refine z_aload_n F dX6_lay_78 rfl ?_
      refine z_aload_n F dX6_lay_79 rfl ?_
      refine z_mi F rfl 4 rfl (Nat.le_of_ble_eq_true rfl) rfl q1484 dX6_lay_80 ?_
      refine z_ieq (f4) ?_
      refine z_pmi F rfl 60 rfl (Nat.le_of_ble_eq_true rfl) rfl q1540 rfl rfl rfl dX6_lay_83 ?_
      refine z_weq (w' := [_, _]) rfl ?_
      refine z_iconst F (nI 0) dX6_lay_86 rfl ?_
      refine z_istore F dX6_lay_87 (Nat.le_of_ble_eq_true rfl) ?_
      refine z_leq (L' := [_, _, _, _, _]) rfl ?_
      exact fin l q (upd F1 60 (nI n)) f0 f4 rfl (frm_upd hF (by decide)) (fun _ => k2) (fun z => absurd z (by omega)) (n + 1) 0 A2 (by omega) (by omega) (hA.tr k1 (by decide) (by decide)) k3 (fun i hi => absurd hi (by omega))
    · refine z_aload_n F dX6_lay_66 rfl ?_
      refine z_callV F (c_mclimbs F1 G A1 B n w d f h hw hw2 h63 f4 f20 hL f61) 0 rfl (lw_V q2047 q2049 qs88 q117 q2050) (by decide +kernel) ⟨Nat.le_of_ble_eq_true rfl, Nat.le_of_ble_eq_true rfl⟩ ⟨by omega, by omega⟩ [0, 1] 2 ⟨rfl, rfl, rfl, ⟨Or.inl rfl, Or.inr rfl, trivial⟩⟩ (fun h => nomatch h) (Nat.le_of_ble_eq_true rfl) ⟨⟨Or.inr trivial, Or.inl rfl, trivial⟩, rfl, rfl, rfl, Nat.le_of_ble_eq_true rfl⟩ rfl zC6 (zat_G0 rfl) rfl dX6_lay_67 (fun r_67 w_67 hp => ?_) (fun _ _ h => h.elim)
      obtain ⟨rfl, A2, rfl, k1, k2⟩ := hp
      refine z_weq (w' := [zH, zG _ _ _ _]) rfl ?_
      refine z_seq (S' := zi _ :: _) rfl ?_
      refine z_goto F (tgt := 77) dX6_lay_70 (by decide) ?_
      refine z_istore_n F dX6_lay_77 (Nat.le_of_ble_eq_true rfl) ?_
      refine z_leq (L' := [_, _, _, _, _]) rfl ?_
      refine z_aload_n F dX6_lay_78 rfl ?_
      refine z_aload_n F dX6_lay_79 rfl ?_
      refine z_mi F rfl 4 rfl (Nat.le_of_ble_eq_true rfl) rfl q1484 dX6_lay_80 ?_
      refine z_ieq (f4) ?_
      refine z_pmi F rfl 60 rfl (Nat.le_of_ble_eq_true rfl) rfl q1540 rfl rfl rfl dX6_lay_83 ?_
      refine z_weq (w' := [_, _]) rfl ?_
      refine z_iconst F (nI 0) dX6_lay_86 rfl ?_
      refine z_istore F dX6_lay_87 (Nat.le_of_ble_eq_true rfl) ?_
      refine z_leq (L' := [_, _, _, _, _]) rfl ?_
      exact fin _ _ (upd F1 60 (nI n)) f0 f4 rfl (frm_upd hF (by decide)) (fun z => absurd z (by omega)) (fun _ => ⟨rfl, rfl⟩) (n + 1) 0 A2 (by omega) (by omega) (hA.tr k1 (by decide) (by decide)) k2 (fun i hi => absurd hi (by omega))
  have ident : ∀ (F1 : Nat → Int32), F1 0 = nI 0 → F1 4 = nI n → F1 20 = nI (prs n f).length → F1 61 = nI w → frm [0, 4, 5, 20, 60, 61] F0 F1 → ∀ (m k : Nat) (A1 : Nat → Nat → Int32), n - k < m → k ≤ n → LnE A1 (prs n f) → frm [6, 21, 22, 62, 63, 64] A A1 → (∀ i, i < k → A1 63 i = nI i) → Z X [some (zr 1 0), none, none, some (zi (nI k)), none] [] [zH, zG F1 G A1 B] 0 0 36 := by
    intro F1 f0 f4 f20 f61 hF m
    induction m with
    | zero => intro k A1 hm; omega
    | succ m ih =>
      intro k A1 hm hk hL hA h63
      refine z_iload_n F dX6_lay_36 rfl ?_
      refine z_aload_n F dX6_lay_37 rfl ?_
      refine z_mi F rfl 4 rfl (Nat.le_of_ble_eq_true rfl) rfl q1484 dX6_lay_38 ?_
      refine z_ieq (f4) ?_
      refine z_icmp_geN F (by omega) (by omega) (tgt := 57) dX6_lay_41 (by decide) (fun c_41 => ?_) (fun c_41 => ?_)
      · refine z_loc _ ?_ (at57 F1 A1 f0 f4 f20 f61 hF hL hA (fun i hi => h63 i (by omega)))
        exact ⟨rfl, trivial⟩
      · refine z_aload_n F dX6_lay_44 rfl ?_
        refine z_ma F rfl 63 rfl (Nat.le_of_ble_eq_true rfl) rfl q1543 dX6_lay_45 ?_
        refine z_iload_n F dX6_lay_48 rfl ?_
        refine z_iload_n F dX6_lay_49 rfl ?_
        refine z_iastGN F rfl rfl (Nat.le_of_ble_eq_true rfl) (by omega) dX6_lay_50 ?_
        refine z_weq (w' := [_, _]) rfl ?_
        refine z_iincN F 1 dX6_lay_51 rfl rfl ?_
        refine z_leq (L' := [_, _, _, _, _]) rfl ?_
        refine z_goto F (tgt := 36) dX6_lay_54 (by decide) ?_
        refine ih (k + 1) _ (by omega) (by omega) hL (frm_zup hA (by decide)) (fun i hi => ?_)
        rw [zup2_row]
        show (if i = k then _ else A1 63 i) = _
        by_cases e : i = k
        · rw [if_pos e, e]
        · rw [if_neg e]; exact h63 i (by omega)
  refine z_aload_n F dX6_lay_0 rfl ?_
  refine z_iload_n F dX6_lay_1 rfl ?_
  refine z_callV F (c_lays_ok _ _ _ _ j n (nI d) f hj (by omega) h.n24 hs) 1 rfl (lw_V q1732 q1734 qs42 q117 q1735) (by decide +kernel) ⟨Nat.le_of_ble_eq_true rfl, Nat.le_of_ble_eq_true rfl⟩ ⟨by omega, by omega⟩ [0, 1] 2 ⟨rfl, rfl, rfl, ⟨Or.inl rfl, Or.inr rfl, trivial⟩⟩ (fun h => nomatch h) (Nat.le_of_ble_eq_true rfl) ⟨⟨Or.inr trivial, Or.inl rfl, trivial⟩, rfl, rfl, rfl, Nat.le_of_ble_eq_true rfl⟩ rfl zC6 (zat_G0 rfl) rfl dX6_lay_2 (fun r_2 w_2 hp => ?_) (fun _ _ h => h.elim)
  obtain ⟨rfl, F1, A1, rfl, f0, f1, f2, f3⟩ := hp
  refine z_weq (w' := [zH, zG _ _ _ _]) rfl ?_
  refine z_seq (S' := zi _ :: _) rfl ?_
  refine z_if_eqB F (tgt := 23) dX6_lay_5 (by decide) (fun c_5 => ?_) (fun c_5 => ?_)
  · cases c_5
  · refine z_aload_n F dX6_lay_8 rfl ?_
    refine z_iload_n F dX6_lay_9 rfl ?_
    refine z_iconst F (nI 1) dX6_lay_10 rfl ?_
    refine z_bipush F (nI 24) dX6_lay_11 rfl ?_
    refine z_callS F (c_within (nI w) (nI 1) (nI 24)) 3 rfl (lw_S q1717 q1718 q117 q1719) (by decide +kernel) ⟨Nat.le_of_ble_eq_true rfl, Nat.le_of_ble_eq_true rfl⟩ ⟨by omega, by omega⟩ [0] 2 ⟨rfl, rfl, rfl, ⟨Or.inl rfl, trivial⟩⟩ (fun h => nomatch h) (Nat.le_of_ble_eq_true rfl) ⟨⟨Or.inr trivial, Or.inr trivial, trivial⟩, rfl, rfl, rfl, Nat.le_of_ble_eq_true rfl⟩ rfl rfl dX6_lay_13 (fun r_13 w_13 hp => ?_) (fun _ _ h => h.elim)
    obtain ⟨rfl, rfl⟩ := hp
    refine z_weq (w' := [zH, zG _ _ _ _]) rfl ?_
    refine z_seq (S' := zi _ :: _) rfl ?_
    rw [show inB (nI w) (nI 1) (nI 24) = true from inB_n (by omega) hw hw2]
    refine z_iconst F (nI 2) dX6_lay_16 rfl ?_
    refine z_callV F (c_right _ _ _ _ true 2 f0 (by omega) (by omega)) 2 rfl (lw_V q1736 q1738 qs43 q117 q1739) (by decide +kernel) ⟨Nat.le_of_ble_eq_true rfl, Nat.le_of_ble_eq_true rfl⟩ ⟨by omega, by omega⟩ [0, 1] 2 ⟨rfl, rfl, rfl, ⟨Or.inl rfl, Or.inr rfl, trivial⟩⟩ (fun h => nomatch h) (Nat.le_of_ble_eq_true rfl) ⟨⟨Or.inr trivial, Or.inl rfl, trivial⟩, rfl, rfl, rfl, Nat.le_of_ble_eq_true rfl⟩ rfl zC6 (zat_G0 rfl) rfl dX6_lay_17 (fun r_17 w_17 hp => ?_) (fun _ _ h => h.elim)
    obtain ⟨rfl, rfl⟩ := hp
    refine z_weq (w' := [zH, zG _ _ _ _]) rfl ?_
    refine z_seq (S' := zi _ :: _) rfl ?_
    refine z_if_neB F (tgt := 25) dX6_lay_20 (by decide) (fun c_20 => ?_) (fun c_20 => ?_)
    · refine z_aload_n F dX6_lay_25 rfl ?_
      refine z_callV F (c_lists F1 _ _ _ n f h24 (prs_96 h) f3.1 (fun k hk => f3.2.2 k (by omega))) 0 rfl (lw_V q1868 q1870 qs62 q117 q1871) (by decide +kernel) ⟨Nat.le_of_ble_eq_true rfl, Nat.le_of_ble_eq_true rfl⟩ ⟨by omega, by omega⟩ [0, 1] 2 ⟨rfl, rfl, rfl, ⟨Or.inl rfl, Or.inr rfl, trivial⟩⟩ (fun h => nomatch h) (Nat.le_of_ble_eq_true rfl) ⟨⟨Or.inr trivial, Or.inl rfl, trivial⟩, rfl, rfl, rfl, Nat.le_of_ble_eq_true rfl⟩ rfl zC6 (zat_G0 rfl) rfl dX6_lay_26 (fun r_26 w_26 hp => ?_) (fun _ _ h => h.elim)
      obtain ⟨rfl, A2, rfl, g1, g2⟩ := hp
      refine z_weq (w' := [zH, zG _ _ _ _]) rfl ?_
      refine z_seq (S' := []) rfl ?_
      refine z_aload_n F dX6_lay_29 rfl ?_
      refine z_iload_n F dX6_lay_30 rfl ?_
      refine z_pmi F rfl 61 rfl (Nat.le_of_ble_eq_true rfl) rfl q1541 rfl rfl rfl dX6_lay_31 ?_
      refine z_weq (w' := [_, _]) rfl ?_
      refine z_iconst F (nI 0) dX6_lay_34 rfl ?_
      refine z_istore_n F dX6_lay_35 (Nat.le_of_ble_eq_true rfl) ?_
      refine z_leq (L' := [_, _, _, _, _]) rfl ?_
      refine z_loc _ ?_ (ident (upd (upd F1 20 (nI (prs n f).length)) 61 (nI w)) f0 f3.1 rfl rfl (frm_upd (frm_upd (f1.to (by decide)) (by decide)) (by decide)) (n + 1) 0 A2 (by omega) (by omega) g2 (f2.tr g1 (by decide) (by decide)) (fun i hi => absurd hi (by omega)))
      exact ⟨rfl, rfl, trivial⟩
    · cases c_20
end C9v
