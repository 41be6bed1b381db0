/-! better, change: WiredNets' and the reference's -/
section C56
theorem bnx_n {n : Nat} {f : Nat → Int32} (h : bres n f = none) : bnx n f = f := by unfold bnx; rw [h]
theorem bnx_s {n : Nat} {f : Nat → Int32} {q : Nat × Nat × Bool} (h : bres n f = some q) : bnx n f = cgo n f q.1 q.2.1 q.2.2 := by unfold bnx; rw [h]
def brs (n : Nat) (f : Nat → Int32) : Nat × (Nat → Int32) := btr n (cpr n f + 1) f
theorem c_pbetter (P : zPt) (t : Nat) (fp sn0 g0 sm0 : Int32) (D : Nat → Int32) (j n d : Nat) (f : Nat → Int32) (hj : j < 8) (h : nok n d f) (hn : n ≤ 12) (hP : P j = some (nI n, nI d, f)) : zCtr yX1_better cX1_better 4 (some .int) 8 3000 52000 [zr 1 0, zi (nI j)] (xFl P t fp sn0 g0 sm0 D) (fun r w => r = some (zi (nI (brs n f).1)) ∧ ∃ sn g sm D, w = xFl (zput P j (some (nI n, nI d, (brs n f).2))) t fp sn g sm D) zNx := by
  refine z_start (by decide) [some (zr 1 0), some (zi (nI j)), none, none] rfl (fun _ => Nat.le_of_ble_eq_true rfl) (fun _ => rfl) (fun X F E hno hin => ?_)
  have h1 := h.n1
  have h24 := h.n24
  have loop : ∀ (m : Nat) (f1 : Nat → Int32) (c k ns : Nat) (sn g sm : Int32) (D : Nat → Int32), nok n d f1 → cpr n f1 < m → (prs n f1).length = (prs n f).length → k + (pot n f1 + 1) ≤ 3000 → ns + (pot n f1 + 1) * (prs n f).length ≤ 52000 → c + (btr n m f1).1 = (brs n f).1 → (btr n m f1).2 = (brs n f).2 → Z X [some (zr 1 0), some (zi (nI j)), some (zr 22 0), some (zi (nI c))] [] [zPl (zput (pR P) j (zr 22 0)) (zput P j none), xO t fp, zH, eFl 4 sn g sm, zAi 0 24 D, zH, zH, zH, zH, zH, zH, zH, zH, zH, zH, zH, zH, zH, zH, zH, zH, zH, zO 5 [zi (nI n), zi (nI d), zr 23 0], zAi 0 24 f1] k ns 19 := by
    intro m
    induction m with
    | zero => intro f1 c k ns sn g sm D hf hm; omega
    | succ m ih =>
      intro f1 c k ns sn g sm D hf hm hM hk hns e1 e2
      have hM2 : (prs n f).length ≤ (pot n f1 + 1) * (prs n f).length := Nat.le_mul_of_pos_left _ (by omega)
      refine z_aload_n F dX1_better_19 rfl ?_
      refine z_aload_n F dX1_better_20 rfl ?_
      refine z_callV F (c_xbetters t fp _ _ _ _ n d f1 hf) 1 rfl (lw_V q932 q934 qs16 q109 q935) (by decide +kernel) ⟨Nat.le_of_ble_eq_true rfl, Nat.le_of_ble_eq_true rfl⟩ ⟨by omega, by omega⟩ [0, 1, 2, 3, 4, 5, 6, 7, 8, 9, 10, 11, 12, 13, 14, 15, 16, 17, 18, 19, 20, 21, 22, 23] 24 ⟨rfl, rfl, rfl, ⟨Or.inl rfl, Or.inr rfl, Or.inl rfl, Or.inr rfl, Or.inr rfl, Or.inl rfl, Or.inl rfl, Or.inl rfl, Or.inl rfl, Or.inl rfl, Or.inl rfl, Or.inl rfl, Or.inl rfl, Or.inl rfl, Or.inl rfl, Or.inl rfl, Or.inl rfl, Or.inl rfl, Or.inl rfl, Or.inl rfl, Or.inl rfl, Or.inl rfl, Or.inr rfl, Or.inr rfl, trivial⟩⟩ (fun h => nomatch h) (Nat.le_of_ble_eq_true rfl) ⟨⟨Or.inr (by first | exact ⟨rfl, pR_B _ (by decide)⟩ | exact ⟨rfl, uR_B (by decide) (by decide)⟩), Or.inl rfl, Or.inr trivial, Or.inl rfl, Or.inl rfl, Or.inr trivial, Or.inr trivial, Or.inr trivial, Or.inr trivial, Or.inr trivial, Or.inr trivial, Or.inr trivial, Or.inr trivial, Or.inr trivial, Or.inr trivial, Or.inr trivial, Or.inr trivial, Or.inr trivial, Or.inr trivial, Or.inr trivial, Or.inr trivial, Or.inr trivial, Or.inl rfl, Or.inl rfl, trivial⟩, rfl, rfl, rfl, Nat.le_of_ble_eq_true rfl⟩ rfl zC1 rfl rfl dX1_better_21 (fun r_21 w_21 hp => ?_) (fun _ _ h => h.elim)
      obtain ⟨rfl, sn, g, sm, D, R, rfl⟩ := hp
      refine z_weq (w' := [zPl _ _, zO _ [zr _ _, zr _ _, zr _ _, zr _ _, zr _ _, zi _, zi _, zr _ _, zr _ _], zH, zO _ [zr _ _, zi _, zi _, zi _], zAi 0 24 _, zH, zH, zH, zH, zH, zH, zH, zH, zH, zH, zH, zH, zH, zH, zH, zH, zH, zO _ [zi _, zi _, zr _ _], zAi 0 24 _, zAi 0 _ _]) rfl ?_
      refine z_seq (S' := zi _ :: _) rfl ?_
      refine z_take F 24 [zPl _ _, zO _ [zr _ _, zr _ _, zr _ _, zr _ _, zr _ _, zi _, zi _, zr _ _, zr _ _], zH, zO _ [zr _ _, zi _, zi _, zi _], zAi 0 24 _, zH, zH, zH, zH, zH, zH, zH, zH, zH, zH, zH, zH, zH, zH, zH, zH, zH, zO _ [zi _, zi _, zr _ _], zAi 0 24 _] rfl ?_
      refine z_if_eqB F (tgt := 33) dX1_better_24 (by decide) (fun c_24 => ?_) (fun c_24 => ?_)
      · have hq : bres n f1 = none := by
          rcases hq : bres n f1 with _ | q
          · rfl
          · rw [hq] at c_24; cases c_24
        rw [btr_n hq] at e1 e2
        rw [bnx_n hq]
        refine z_iload_n F dX1_better_33 rfl ?_
        refine z_loc [some _, some _, none, some _] ⟨rfl, rfl, rfl, trivial⟩ ?_
        refine z_unfocus F rfl j 22 23 22 hj zput_self rfl rfl (Nat.le_of_ble_eq_true rfl) (Nat.le_of_ble_eq_true rfl) (Nat.le_of_ble_eq_true rfl) (Nat.le_of_ble_eq_true rfl) [zO _ [zr _ _, zr _ _, zr _ _, zr _ _, zr _ _, zi _, zi _, zr _ _, zr _ _], zH, zO _ [zr _ _, zi _, zi _, zi _], zAi 0 24 _, zH, zH, zH, zH, zH, zH, zH, zH, zH, zH, zH, zH, zH, zH, zH, zH, zH] rfl ⟨rfl, trivial, rfl, trivial, trivial, trivial, trivial, trivial, trivial, trivial, trivial, trivial, trivial, trivial, trivial, trivial, trivial, trivial, trivial, trivial, trivial, trivial⟩ uOK rfl rfl ?_
        refine z_weq (w' := zPl (pR (zput P j (some _))) (zput P j (some _)) :: _) (congrArg (fun z => z :: _) uPl2) ?_
        exact z_iret F E rfl dX1_better_34 (by omega) (by omega) (⟨by rw [← e1]; rfl, sn, g, sm, D, by rw [← e2]; rfl⟩)
      · obtain ⟨q, hq⟩ : ∃ q, bres n f1 = some q := by
          rcases hq : bres n f1 with _ | q
          · rw [hq] at c_24; cases c_24
          · exact ⟨q, rfl⟩
        obtain ⟨q1, q2, q3, q4⟩ := bres_in hq
        obtain ⟨g1, g2, g3⟩ := cgo_ok hf (by omega) q2 q3
        have hpd := pot_dec hf g1 hn g2 q4
        have hmu : (pot n (cgo n f1 q.1 q.2.1 q.2.2) + 1) * (prs n f).length + (prs n f).length ≤ (pot n f1 + 1) * (prs n f).length := by
          have := Nat.mul_le_mul_right (prs n f).length (show pot n (cgo n f1 q.1 q.2.1 q.2.2) + 1 + 1 ≤ pot n f1 + 1 by omega)
          rw [Nat.add_mul, Nat.one_mul] at this
          exact this
        rw [btr_s hq] at e1 e2
        rw [bnx_s hq]
        refine z_iincN F 1 dX1_better_27 rfl rfl ?_
        refine z_leq (L' := [_, _, _, _]) rfl ?_
        refine z_goto F (tgt := 19) dX1_better_30 (by decide) ?_
        exact ih _ (c + 1) _ _ _ _ _ _ g1 (by omega) (g2.trans hM) (by omega) (by omega) (by simp only at e1; omega) e2
  obtain ⟨s1, s2⟩ := slots_ok h hn
  refine z_aload_n F dX1_better_0 rfl ?_
  refine z_iload_n F dX1_better_1 rfl ?_
  refine z_callV F (c_netAt_ok P t fp j hj hP) 1 rfl (lw_V q429 q431 qs0 q109 q432) (by decide +kernel) ⟨Nat.le_of_ble_eq_true rfl, Nat.le_of_ble_eq_true rfl⟩ ⟨by omega, by omega⟩ [0, 1, 2, 3, 4, 5, 6, 7, 8, 9, 10, 11, 12, 13, 14, 15, 16, 17, 18, 19, 20, 21] 22 ⟨rfl, rfl, rfl, ⟨Or.inr (congrArg some (zrnP rfl).symm), Or.inr rfl, Or.inl rfl, Or.inl rfl, Or.inl rfl, Or.inl rfl, Or.inl rfl, Or.inl rfl, Or.inl rfl, Or.inl rfl, Or.inl rfl, Or.inl rfl, Or.inl rfl, Or.inl rfl, Or.inl rfl, Or.inl rfl, Or.inl rfl, Or.inl rfl, Or.inl rfl, Or.inl rfl, Or.inl rfl, Or.inl rfl, trivial⟩⟩ (fun _ => rfl) (Nat.le_of_ble_eq_true rfl) ⟨⟨Or.inl rfl, Or.inl rfl, Or.inr trivial, Or.inr rfl, Or.inr trivial, Or.inr trivial, Or.inr trivial, Or.inr trivial, Or.inr trivial, Or.inr trivial, Or.inr trivial, Or.inr trivial, Or.inr trivial, Or.inr trivial, Or.inr trivial, Or.inr trivial, Or.inr trivial, Or.inr trivial, Or.inr trivial, Or.inr trivial, Or.inr trivial, Or.inr trivial, trivial⟩, rfl, rfl, rfl, Nat.le_of_ble_eq_true rfl⟩ rfl zC1 rfl rfl dX1_better_2 (fun r_2 w_2 hp => ?_) (fun _ _ h => h.elim)
  obtain ⟨rfl, rfl⟩ := hp
  refine z_weq (w' := zPl (pR _) _ :: _) (congrArg (fun z => z :: _) (zrnP rfl)) ?_
  refine z_weq (w' := [zPl _ _, zO _ [zr _ _, zr _ _, zr _ _, zr _ _, zr _ _, zi _, zi _, zr _ _, zr _ _], zH, zO _ [zr _ _, zi _, zi _, zi _], zAi 0 24 _, zH, zH, zH, zH, zH, zH, zH, zH, zH, zH, zH, zH, zH, zH, zH, zH, zH]) rfl ?_
  refine z_seq (S' := zr _ _ :: _) rfl ?_
  refine z_astore_n F dX1_better_5 (Nat.le_of_ble_eq_true rfl) ?_
  refine z_leq (L' := [_, _, _, _]) rfl ?_
  refine z_foc F j hj hP (N := 22) (M := 23) (L' := [_, _, some (zr 22 0), _]) (S' := []) rfl rfl (Nat.le_of_ble_eq_true rfl) ⟨rfl, trivial, rfl, trivial, trivial, trivial, trivial, trivial, trivial, trivial, trivial, trivial, trivial, trivial, trivial, trivial, trivial, trivial, trivial, trivial, trivial, trivial⟩ ⟨Or.inl rfl, Or.inl rfl, Or.inr ⟨rfl, rfl⟩, Or.inl rfl, trivial⟩ rfl trivial rfl ?_
  refine z_weq (w' := [zPl _ _, zO _ [zr _ _, zr _ _, zr _ _, zr _ _, zr _ _, zi _, zi _, zr _ _, zr _ _], zH, zO _ [zr _ _, zi _, zi _, zi _], zAi 0 24 _, zH, zH, zH, zH, zH, zH, zH, zH, zH, zH, zH, zH, zH, zH, zH, zH, zH, zO _ [zi _, zi _, zr _ _], zAi 0 24 _]) rfl ?_
  refine z_aload_n F dX1_better_6 rfl ?_
  refine z_getN F zC5 (f := 0) rfl (Nat.le_of_ble_eq_true rfl) q245 rfl dX1_better_7 ?_
  refine z_bipush F (nI 12) dX1_better_10 rfl ?_
  refine z_icmp_leN F (by omega) (by omega) (tgt := 17) dX1_better_12 (by decide) (fun c_12 => ?_) (fun c_12 => ?_)
  · refine z_iconst F (nI 0) dX1_better_17 rfl ?_
    refine z_istore_n F dX1_better_18 (Nat.le_of_ble_eq_true rfl) ?_
    refine z_leq (L' := [_, _, _, _]) rfl ?_
    exact loop _ f 0 _ _ _ _ _ _ h (Nat.lt_succ_self _) rfl (by omega) (by omega) (by rw [Nat.zero_add]; rfl) rfl
  · exact absurd c_12 (by omega)
theorem c_pbetter_big (P : zPt) (t : Nat) (fp : Int32) (j n d : Nat) (f : Nat → Int32) (hj : j < 8) (h : nok n d f) (hn : 12 < n) (hP : P j = some (nI n, nI d, f)) : zCtr yX1_better cX1_better 4 (some .int) 8 3000 52000 [zr 1 0, zi (nI j)] (xH P t fp) (fun r w => r = some (zi (-1)) ∧ w = xH P t fp) zNx := by
  refine z_start (by decide) [some (zr 1 0), some (zi (nI j)), none, none] rfl (fun _ => Nat.le_of_ble_eq_true rfl) (fun _ => rfl) (fun X F E hno hin => ?_)
  have h24 := h.n24
  refine z_aload_n F dX1_better_0 rfl ?_
  refine z_iload_n F dX1_better_1 rfl ?_
  refine z_callV F (c_netAt_ok P t fp j hj hP) 1 rfl (lw_V q429 q431 qs0 q109 q432) (by decide +kernel) ⟨Nat.le_of_ble_eq_true rfl, Nat.le_of_ble_eq_true rfl⟩ ⟨by omega, by omega⟩ [0, 1, 2, 3, 4, 5, 6, 7, 8, 9, 10, 11, 12, 13, 14, 15, 16, 17, 18, 19, 20, 21] 22 ⟨rfl, rfl, rfl, ⟨Or.inr (congrArg some (zrnP rfl).symm), Or.inr rfl, Or.inl rfl, Or.inl rfl, Or.inl rfl, Or.inl rfl, Or.inl rfl, Or.inl rfl, Or.inl rfl, Or.inl rfl, Or.inl rfl, Or.inl rfl, Or.inl rfl, Or.inl rfl, Or.inl rfl, Or.inl rfl, Or.inl rfl, Or.inl rfl, Or.inl rfl, Or.inl rfl, Or.inl rfl, Or.inl rfl, trivial⟩⟩ (fun _ => rfl) (Nat.le_of_ble_eq_true rfl) ⟨⟨Or.inl rfl, Or.inl rfl, Or.inr trivial, Or.inr trivial, Or.inr trivial, Or.inr trivial, Or.inr trivial, Or.inr trivial, Or.inr trivial, Or.inr trivial, Or.inr trivial, Or.inr trivial, Or.inr trivial, Or.inr trivial, Or.inr trivial, Or.inr trivial, Or.inr trivial, Or.inr trivial, Or.inr trivial, Or.inr trivial, Or.inr trivial, Or.inr trivial, trivial⟩, rfl, rfl, rfl, Nat.le_of_ble_eq_true rfl⟩ rfl zC1 rfl rfl dX1_better_2 (fun r_2 w_2 hp => ?_) (fun _ _ h => h.elim)
  obtain ⟨rfl, rfl⟩ := hp
  refine z_weq (w' := zPl (pR _) _ :: _) (congrArg (fun z => z :: _) (zrnP rfl)) ?_
  refine z_weq (w' := [zPl _ _, zO _ [zr _ _, zr _ _, zr _ _, zr _ _, zr _ _, zi _, zi _, zr _ _, zr _ _], zH, zH, zH, zH, zH, zH, zH, zH, zH, zH, zH, zH, zH, zH, zH, zH, zH, zH, zH, zH]) rfl ?_
  refine z_seq (S' := zr _ _ :: _) rfl ?_
  refine z_astore_n F dX1_better_5 (Nat.le_of_ble_eq_true rfl) ?_
  refine z_leq (L' := [_, _, _, _]) rfl ?_
  refine z_foc F j hj hP (N := 22) (M := 23) (L' := [_, _, some (zr 22 0), _]) (S' := []) rfl rfl (Nat.le_of_ble_eq_true rfl) ⟨rfl, trivial, trivial, trivial, trivial, trivial, trivial, trivial, trivial, trivial, trivial, trivial, trivial, trivial, trivial, trivial, trivial, trivial, trivial, trivial, trivial, trivial⟩ ⟨Or.inl rfl, Or.inl rfl, Or.inr ⟨rfl, rfl⟩, Or.inl rfl, trivial⟩ rfl trivial rfl ?_
  refine z_weq (w' := [zPl _ _, zO _ [zr _ _, zr _ _, zr _ _, zr _ _, zr _ _, zi _, zi _, zr _ _, zr _ _], zH, zH, zH, zH, zH, zH, zH, zH, zH, zH, zH, zH, zH, zH, zH, zH, zH, zH, zH, zH, zO _ [zi _, zi _, zr _ _], zAi 0 24 _]) rfl ?_
  refine z_aload_n F dX1_better_6 rfl ?_
  refine z_getN F zC5 (f := 0) rfl (Nat.le_of_ble_eq_true rfl) q245 rfl dX1_better_7 ?_
  refine z_bipush F (nI 12) dX1_better_10 rfl ?_
  refine z_icmp_leN F (by omega) (by omega) (tgt := 17) dX1_better_12 (by decide) (fun c_12 => ?_) (fun c_12 => ?_)
  · exact absurd c_12 (by omega)
  · refine z_iconst F (-1) dX1_better_15 rfl ?_
    refine z_loc [some _, some _, none, none] ⟨rfl, rfl, trivial⟩ ?_
    refine z_unfocus F rfl j 22 23 22 hj zput_self rfl rfl (Nat.le_of_ble_eq_true rfl) (Nat.le_of_ble_eq_true rfl) (Nat.le_of_ble_eq_true rfl) (Nat.le_of_ble_eq_true rfl) [zO _ [zr _ _, zr _ _, zr _ _, zr _ _, zr _ _, zi _, zi _, zr _ _, zr _ _], zH, zH, zH, zH, zH, zH, zH, zH, zH, zH, zH, zH, zH, zH, zH, zH, zH, zH, zH, zH] rfl ⟨rfl, trivial, trivial, trivial, trivial, trivial, trivial, trivial, trivial, trivial, trivial, trivial, trivial, trivial, trivial, trivial, trivial, trivial, trivial, trivial, trivial, trivial⟩ uOK rfl rfl ?_
    refine z_weq (w' := zPl (pR (zput P j (some _))) (zput P j (some _)) :: _) (congrArg (fun z => z :: _) uPl2) ?_
    exact z_iret F E rfl dX1_better_16 (by omega) (by omega) (⟨rfl, by rw [zput_some hP]; rfl⟩)
theorem c_pchange (P : zPt) (t : Nat) (fp : Int32) (j n d : Nat) (f : Nat → Int32) (x y : Int32) (cr : Bool) (hj : j < 8) (h : nok n d f) (hP : P j = some (nI n, nI d, f)) : zCtr yX1_change cX1_change 7 (some .boolean) 8 3 112 [zr 1 0, zi (nI j), zi x, zi y, zi (bI cr)] (xH P t fp) (fun r w => ∃ i' j', i' < j' ∧ j' < (prs n f).length ∧ x = nI i' ∧ y = nI j' ∧ r = some (zi (bI (cok n f i' j' cr))) ∧ w = xH (zput P j (some (nI n, nI d, if cok n f i' j' cr then cgo n f i' j' cr else f))) t fp) (fun E w => E = eNSE ∧ (∀ i' j', i' < j' → j' < (prs n f).length → x = nI i' → y = nI j' → False) ∧ w = xH P t fp) := by
  refine z_start (by decide) [some (zr 1 0), some (zi (nI j)), some (zi x), some (zi y), some (zi (bI cr)), none, none] rfl (fun _ => Nat.le_of_ble_eq_true rfl) (fun _ => rfl) (fun X F E hno hin => ?_)
  have h96 := prs_96 h
  refine z_aload_n F dX1_change_0 rfl ?_
  refine z_iload_n F dX1_change_1 rfl ?_
  refine z_callV F (c_netAt_ok P t fp j hj hP) 1 rfl (lw_V q429 q431 qs0 q109 q432) (by decide +kernel) ⟨Nat.le_of_ble_eq_true rfl, Nat.le_of_ble_eq_true rfl⟩ ⟨by omega, by omega⟩ [0, 1, 2, 3, 4, 5, 6, 7, 8, 9, 10, 11, 12, 13, 14, 15, 16, 17, 18, 19, 20, 21] 22 ⟨rfl, rfl, rfl, ⟨Or.inr (congrArg some (zrnP rfl).symm), Or.inr rfl, Or.inl rfl, Or.inl rfl, Or.inl rfl, Or.inl rfl, Or.inl rfl, Or.inl rfl, Or.inl rfl, Or.inl rfl, Or.inl rfl, Or.inl rfl, Or.inl rfl, Or.inl rfl, Or.inl rfl, Or.inl rfl, Or.inl rfl, Or.inl rfl, Or.inl rfl, Or.inl rfl, Or.inl rfl, Or.inl rfl, trivial⟩⟩ (fun _ => rfl) (Nat.le_of_ble_eq_true rfl) ⟨⟨Or.inl rfl, Or.inl rfl, Or.inr trivial, Or.inr trivial, Or.inr trivial, Or.inr trivial, Or.inr trivial, Or.inr trivial, Or.inr trivial, Or.inr trivial, Or.inr trivial, Or.inr trivial, Or.inr trivial, Or.inr trivial, Or.inr trivial, Or.inr trivial, Or.inr trivial, Or.inr trivial, Or.inr trivial, Or.inr trivial, Or.inr trivial, Or.inr trivial, trivial⟩, rfl, rfl, rfl, Nat.le_of_ble_eq_true rfl⟩ rfl zC1 rfl rfl dX1_change_2 (fun r_2 w_2 hp => ?_) (fun _ _ h => h.elim)
  obtain ⟨rfl, rfl⟩ := hp
  refine z_weq (w' := zPl (pR _) _ :: _) (congrArg (fun z => z :: _) (zrnP rfl)) ?_
  refine z_weq (w' := [zPl _ _, zO _ [zr _ _, zr _ _, zr _ _, zr _ _, zr _ _, zi _, zi _, zr _ _, zr _ _], zH, zH, zH, zH, zH, zH, zH, zH, zH, zH, zH, zH, zH, zH, zH, zH, zH, zH, zH, zH]) rfl ?_
  refine z_seq (S' := zr _ _ :: _) rfl ?_
  refine z_astore F dX1_change_5 (Nat.le_of_ble_eq_true rfl) ?_
  refine z_leq (L' := [_, _, _, _, _, _, _]) rfl ?_
  refine z_foc F j hj hP (N := 22) (M := 23) (L' := [_, _, _, _, _, some (zr 22 0), _]) (S' := []) rfl rfl (Nat.le_of_ble_eq_true rfl) ⟨rfl, trivial, trivial, trivial, trivial, trivial, trivial, trivial, trivial, trivial, trivial, trivial, trivial, trivial, trivial, trivial, trivial, trivial, trivial, trivial, trivial, trivial⟩ ⟨Or.inl rfl, Or.inl rfl, Or.inl rfl, Or.inl rfl, Or.inl rfl, Or.inr ⟨rfl, rfl⟩, Or.inl rfl, trivial⟩ rfl trivial rfl ?_
  refine z_weq (w' := [zPl _ _, zO _ [zr _ _, zr _ _, zr _ _, zr _ _, zr _ _, zi _, zi _, zr _ _, zr _ _], zH, zH, zH, zH, zH, zH, zH, zH, zH, zH, zH, zH, zH, zH, zH, zH, zH, zH, zH, zH, zO _ [zi _, zi _, zr _ _], zAi 0 24 _]) rfl ?_
  refine z_aload F dX1_change_7 rfl ?_
  refine z_callV F (c_row n (nI d) f h.sy (by omega)) 0 rfl (lw_V q779 q780 q781 q116 q782) (by decide +kernel) ⟨Nat.le_of_ble_eq_true rfl, Nat.le_of_ble_eq_true rfl⟩ ⟨by omega, by omega⟩ [0, 22, 23] 24 ⟨rfl, rfl, rfl, ⟨Or.inl rfl, Or.inr rfl, Or.inr rfl, trivial⟩⟩ (fun h => nomatch h) (Nat.le_of_ble_eq_true rfl) ⟨⟨Or.inr (by first | exact ⟨rfl, pR_B _ (by decide)⟩ | exact ⟨rfl, uR_B (by decide) (by decide)⟩), Or.inr rfl, Or.inr trivial, Or.inr trivial, Or.inr trivial, Or.inr trivial, Or.inr trivial, Or.inr trivial, Or.inr trivial, Or.inr trivial, Or.inr trivial, Or.inr trivial, Or.inr trivial, Or.inr trivial, Or.inr trivial, Or.inr trivial, Or.inr trivial, Or.inr trivial, Or.inr trivial, Or.inr trivial, Or.inr trivial, Or.inr trivial, Or.inl rfl, Or.inl rfl, trivial⟩, rfl, rfl, rfl, Nat.le_of_ble_eq_true rfl⟩ rfl zC5 rfl rfl dX1_change_9 (fun r_9 w_9 hp => ?_) (fun _ _ h => h.elim)
  obtain ⟨rfl, rfl⟩ := hp
  refine z_weq (w' := [zPl _ _, zO _ [zr _ _, zr _ _, zr _ _, zr _ _, zr _ _, zi _, zi _, zr _ _, zr _ _], zH, zH, zH, zH, zH, zH, zH, zH, zH, zH, zH, zH, zH, zH, zH, zH, zH, zH, zH, zH, zO _ [zi _, zi _, zr _ _], zAi 0 24 _, zAi 0 (prs n f).length _]) rfl ?_
  refine z_seq (S' := zr _ _ :: _) rfl ?_
  refine z_astore F dX1_change_12 (Nat.le_of_ble_eq_true rfl) ?_
  refine z_leq (L' := [_, _, _, _, _, _, _]) rfl ?_
  refine z_iload_n F dX1_change_14 rfl ?_
  refine z_if_lt F (tgt := 34) dX1_change_15 (by decide) (fun c_15 => ?_) (fun c_15 => ?_)
  · refine z_iconstB F false dX1_change_34 rfl ?_
    refine z_callS F (c_fnd false) 1 rfl (lw_S q433 q434 q109 q435) (by decide +kernel) ⟨Nat.le_of_ble_eq_true rfl, Nat.le_of_ble_eq_true rfl⟩ ⟨by omega, by omega⟩ [0] 25 ⟨rfl, rfl, rfl, ⟨Or.inl rfl, trivial⟩⟩ (fun h => nomatch h) (Nat.le_of_ble_eq_true rfl) ⟨⟨Or.inr (by first | exact ⟨rfl, pR_B _ (by decide)⟩ | exact ⟨rfl, uR_B (by decide) (by decide)⟩), Or.inr rfl, Or.inr trivial, Or.inr trivial, Or.inr trivial, Or.inr trivial, Or.inr trivial, Or.inr trivial, Or.inr trivial, Or.inr trivial, Or.inr trivial, Or.inr trivial, Or.inr trivial, Or.inr trivial, Or.inr trivial, Or.inr trivial, Or.inr trivial, Or.inr trivial, Or.inr trivial, Or.inr trivial, Or.inr trivial, Or.inr trivial, Or.inr rfl, Or.inr trivial, Or.inr trivial, trivial⟩, rfl, rfl, rfl, Nat.le_of_ble_eq_true rfl⟩ rfl rfl dX1_change_35 (fun r_35 w_35 hp => ?_) (fun E_ w_ hx => by obtain ⟨rfl, hb, rfl⟩ := hx; exact zx_pub F rfl E hno j 22 23 hj hP rfl rfl (Nat.le_of_ble_eq_true rfl) (Nat.le_of_ble_eq_true rfl) (Nat.le_of_ble_eq_true rfl) _ rfl ⟨rfl, trivial, trivial, trivial, trivial, trivial, trivial, trivial, trivial, trivial, trivial, trivial, trivial, trivial, trivial, trivial, trivial, trivial, trivial, trivial, trivial, trivial⟩ (Nat.le_of_ble_eq_true rfl) (by omega) (by omega) (⟨rfl, fun i' j' a b e1 e2 => absurd c_15 (by rw [e1]; exact nI_pos (by omega)), rfl⟩))
    exact nomatch hp.2.1
  · refine z_iload_n F dX1_change_18 rfl ?_
    refine z_iload_n F dX1_change_19 rfl ?_
    refine z_icmp_ge F (tgt := 34) dX1_change_20 (by decide) (fun c_20 => ?_) (fun c_20 => ?_)
    · refine z_iconstB F false dX1_change_34 rfl ?_
      refine z_callS F (c_fnd false) 1 rfl (lw_S q433 q434 q109 q435) (by decide +kernel) ⟨Nat.le_of_ble_eq_true rfl, Nat.le_of_ble_eq_true rfl⟩ ⟨by omega, by omega⟩ [0] 25 ⟨rfl, rfl, rfl, ⟨Or.inl rfl, trivial⟩⟩ (fun h => nomatch h) (Nat.le_of_ble_eq_true rfl) ⟨⟨Or.inr (by first | exact ⟨rfl, pR_B _ (by decide)⟩ | exact ⟨rfl, uR_B (by decide) (by decide)⟩), Or.inr rfl, Or.inr trivial, Or.inr trivial, Or.inr trivial, Or.inr trivial, Or.inr trivial, Or.inr trivial, Or.inr trivial, Or.inr trivial, Or.inr trivial, Or.inr trivial, Or.inr trivial, Or.inr trivial, Or.inr trivial, Or.inr trivial, Or.inr trivial, Or.inr trivial, Or.inr trivial, Or.inr trivial, Or.inr trivial, Or.inr trivial, Or.inr rfl, Or.inr trivial, Or.inr trivial, trivial⟩, rfl, rfl, rfl, Nat.le_of_ble_eq_true rfl⟩ rfl rfl dX1_change_35 (fun r_35 w_35 hp => ?_) (fun E_ w_ hx => by obtain ⟨rfl, hb, rfl⟩ := hx; exact zx_pub F rfl E hno j 22 23 hj hP rfl rfl (Nat.le_of_ble_eq_true rfl) (Nat.le_of_ble_eq_true rfl) (Nat.le_of_ble_eq_true rfl) _ rfl ⟨rfl, trivial, trivial, trivial, trivial, trivial, trivial, trivial, trivial, trivial, trivial, trivial, trivial, trivial, trivial, trivial, trivial, trivial, trivial, trivial, trivial, trivial⟩ (Nat.le_of_ble_eq_true rfl) (by omega) (by omega) (⟨rfl, fun i' j' a b e1 e2 => absurd c_20 (Int32.not_le.mpr (by rw [e1, e2]; exact (nI_ltI (by omega) (by omega)).mpr a)), rfl⟩))
      exact nomatch hp.2.1
    · refine z_iload_n F dX1_change_23 rfl ?_
      refine z_aload F dX1_change_24 rfl ?_
      refine z_alenN F (fun _ => rfl) rfl dX1_change_26 ?_
      refine z_icmp_ge F (tgt := 34) dX1_change_27 (by decide) (fun c_27 => ?_) (fun c_27 => ?_)
      · refine z_iconstB F false dX1_change_34 rfl ?_
        refine z_callS F (c_fnd false) 1 rfl (lw_S q433 q434 q109 q435) (by decide +kernel) ⟨Nat.le_of_ble_eq_true rfl, Nat.le_of_ble_eq_true rfl⟩ ⟨by omega, by omega⟩ [0] 25 ⟨rfl, rfl, rfl, ⟨Or.inl rfl, trivial⟩⟩ (fun h => nomatch h) (Nat.le_of_ble_eq_true rfl) ⟨⟨Or.inr (by first | exact ⟨rfl, pR_B _ (by decide)⟩ | exact ⟨rfl, uR_B (by decide) (by decide)⟩), Or.inr rfl, Or.inr trivial, Or.inr trivial, Or.inr trivial, Or.inr trivial, Or.inr trivial, Or.inr trivial, Or.inr trivial, Or.inr trivial, Or.inr trivial, Or.inr trivial, Or.inr trivial, Or.inr trivial, Or.inr trivial, Or.inr trivial, Or.inr trivial, Or.inr trivial, Or.inr trivial, Or.inr trivial, Or.inr trivial, Or.inr trivial, Or.inr rfl, Or.inr trivial, Or.inr trivial, trivial⟩, rfl, rfl, rfl, Nat.le_of_ble_eq_true rfl⟩ rfl rfl dX1_change_35 (fun r_35 w_35 hp => ?_) (fun E_ w_ hx => by obtain ⟨rfl, hb, rfl⟩ := hx; exact zx_pub F rfl E hno j 22 23 hj hP rfl rfl (Nat.le_of_ble_eq_true rfl) (Nat.le_of_ble_eq_true rfl) (Nat.le_of_ble_eq_true rfl) _ rfl ⟨rfl, trivial, trivial, trivial, trivial, trivial, trivial, trivial, trivial, trivial, trivial, trivial, trivial, trivial, trivial, trivial, trivial, trivial, trivial, trivial, trivial, trivial⟩ (Nat.le_of_ble_eq_true rfl) (by omega) (by omega) (⟨rfl, fun i' j' a b e1 e2 => absurd c_27 (Int32.not_le.mpr (by rw [e2]; exact (nI_ltI (by omega) (by omega)).mpr b)), rfl⟩))
        exact nomatch hp.2.1
      · obtain ⟨i', hi', rfl⟩ := nI_of c_15
        obtain ⟨j', hj', rfl⟩ := nI_of (show ¬ y < 0 from fun q => c_20 (Int32.le_of_lt (Int32.lt_of_lt_of_le q (Int32.not_lt.mp c_15))))
        have hij : i' < j' := (nI_ltI hi' hj').mp (Int32.not_le.mp c_20)
        have hjl : j' < (prs n f).length := (nI_ltI hj' (by omega)).mp (Int32.not_le.mp c_27)
        refine z_iconstB F true dX1_change_30 rfl ?_
        refine z_goto F (tgt := 35) dX1_change_31 (by decide) ?_
        refine z_callS F (c_fnd true) 1 rfl (lw_S q433 q434 q109 q435) (by decide +kernel) ⟨Nat.le_of_ble_eq_true rfl, Nat.le_of_ble_eq_true rfl⟩ ⟨by omega, by omega⟩ [0] 25 ⟨rfl, rfl, rfl, ⟨Or.inl rfl, trivial⟩⟩ (fun h => nomatch h) (Nat.le_of_ble_eq_true rfl) ⟨⟨Or.inr (by first | exact ⟨rfl, pR_B _ (by decide)⟩ | exact ⟨rfl, uR_B (by decide) (by decide)⟩), Or.inr rfl, Or.inr trivial, Or.inr trivial, Or.inr trivial, Or.inr trivial, Or.inr trivial, Or.inr trivial, Or.inr trivial, Or.inr trivial, Or.inr trivial, Or.inr trivial, Or.inr trivial, Or.inr trivial, Or.inr trivial, Or.inr trivial, Or.inr trivial, Or.inr trivial, Or.inr trivial, Or.inr trivial, Or.inr trivial, Or.inr trivial, Or.inr rfl, Or.inr trivial, Or.inr trivial, trivial⟩, rfl, rfl, rfl, Nat.le_of_ble_eq_true rfl⟩ rfl rfl dX1_change_35 (fun r_35 w_35 hp => ?_) (fun E_ w_ hx => by obtain ⟨-, hb, -⟩ := hx; cases hb)
        obtain ⟨rfl, -, rfl⟩ := hp
        refine z_weq (w' := [zPl _ _, zO _ [zr _ _, zr _ _, zr _ _, zr _ _, zr _ _, zi _, zi _, zr _ _, zr _ _], zH, zH, zH, zH, zH, zH, zH, zH, zH, zH, zH, zH, zH, zH, zH, zH, zH, zH, zH, zH, zO _ [zi _, zi _, zr _ _], zAi 0 24 _, zAi 0 (prs n f).length _]) rfl ?_
        refine z_seq (S' := []) rfl ?_
        refine z_aload F dX1_change_38 rfl ?_
        refine z_aload F dX1_change_40 rfl ?_
        refine z_iload_n F dX1_change_42 rfl ?_
        refine z_ialdN F rfl (by omega) (by omega) rfl dX1_change_43 ?_
        refine z_ieq (rw1 (by omega)) ?_
        refine z_aload F dX1_change_44 rfl ?_
        refine z_iload_n F dX1_change_46 rfl ?_
        refine z_ialdN F rfl (by omega) (by omega) rfl dX1_change_47 ?_
        refine z_ieq (rw1 hjl) ?_
        refine z_iload F dX1_change_48 rfl ?_
        refine z_callS F (c_xchg n d f i' j' cr h (by omega) hjl) 4 rfl (lw_S q922 q923 q109 q924) (by decide +kernel) ⟨Nat.le_of_ble_eq_true rfl, Nat.le_of_ble_eq_true rfl⟩ ⟨by omega, by omega⟩ [0, 22, 23] 25 ⟨rfl, rfl, rfl, ⟨Or.inl rfl, Or.inr rfl, Or.inr rfl, trivial⟩⟩ (fun h => nomatch h) (Nat.le_of_ble_eq_true rfl) ⟨⟨Or.inr (by first | exact ⟨rfl, pR_B _ (by decide)⟩ | exact ⟨rfl, uR_B (by decide) (by decide)⟩), Or.inr rfl, Or.inr trivial, Or.inr trivial, Or.inr trivial, Or.inr trivial, Or.inr trivial, Or.inr trivial, Or.inr trivial, Or.inr trivial, Or.inr trivial, Or.inr trivial, Or.inr trivial, Or.inr trivial, Or.inr trivial, Or.inr trivial, Or.inr trivial, Or.inr trivial, Or.inr trivial, Or.inr trivial, Or.inr trivial, Or.inr trivial, Or.inl rfl, Or.inl rfl, Or.inr trivial, trivial⟩, rfl, rfl, rfl, Nat.le_of_ble_eq_true rfl⟩ rfl rfl dX1_change_50 (fun r_50 w_50 hp => ?_) (fun _ _ h => h.elim)
        obtain ⟨rfl, rfl⟩ := hp
        refine z_weq (w' := [zPl _ _, zO _ [zr _ _, zr _ _, zr _ _, zr _ _, zr _ _, zi _, zi _, zr _ _, zr _ _], zH, zH, zH, zH, zH, zH, zH, zH, zH, zH, zH, zH, zH, zH, zH, zH, zH, zH, zH, zH, zO _ [zi _, zi _, zr _ _], zAi 0 24 _, zAi 0 (prs n f).length _]) rfl ?_
        refine z_seq (S' := zi _ :: _) rfl ?_
        refine z_loc [some _, some _, some _, some _, some _, none, none] ⟨rfl, rfl, rfl, rfl, rfl, trivial⟩ ?_
        refine z_unfocus F rfl j 22 23 22 hj zput_self rfl rfl (Nat.le_of_ble_eq_true rfl) (Nat.le_of_ble_eq_true rfl) (Nat.le_of_ble_eq_true rfl) (Nat.le_of_ble_eq_true rfl) [zO _ [zr _ _, zr _ _, zr _ _, zr _ _, zr _ _, zi _, zi _, zr _ _, zr _ _], zH, zH, zH, zH, zH, zH, zH, zH, zH, zH, zH, zH, zH, zH, zH, zH, zH, zH, zH, zH] rfl ⟨rfl, trivial, trivial, trivial, trivial, trivial, trivial, trivial, trivial, trivial, trivial, trivial, trivial, trivial, trivial, trivial, trivial, trivial, trivial, trivial, trivial, trivial⟩ uOK rfl rfl ?_
        refine z_weq (w' := zPl (pR (zput P j (some _))) (zput P j (some _)) :: _) (congrArg (fun z => z :: _) uPl2) ?_
        exact z_zret F E rfl (bI_nar _) dX1_change_53 (by omega) (by omega) (⟨i', j', hij, hjl, rfl, rfl, rfl, rfl⟩)
theorem c_mbetters (F0 : Nat → Int32) (G : Nat → Int64) (A : Nat → Nat → Int32) (B : Nat → Nat → Int64) (n d : Nat) (f : Nat → Int32) (h : nok n d f) (h4 : F0 4 = nI n) (hf : ∀ k, k < 24 → A 6 k = f k) :
    zCtr yX6_betters cX6_betters 9 (some .boolean) 4 0 0 [zr 1 0] [zH, zG F0 G A B] (fun r w => r = some (zi (bI (bres n f).isSome)) ∧ ∃ F' A', w = [zH, zG F' G A' B] ∧ frm [20, 24, 25] F0 F' ∧ frm [6, 21, 22, 23] A A' ∧ ∀ k, k < 24 → A' 6 k = bnx n f k) zNx := by
  refine z_start (by decide) [some (zr 1 0), none, none, none, none, none, none, none, none] rfl (fun _ => Nat.le_of_ble_eq_true rfl) (fun _ => rfl) (fun X F E hno hin => ?_)
  have h24 := h.n24
  have h96 := prs_96 h
  have hcp := cpr_le h
  let eI : Option (Nat × Nat × Bool) → Int32 := fun o => match o with
    | none => -1
    | some q => nI q.1
  let eJ : Option (Nat × Nat × Bool) → Int32 := fun o => match o with
    | none => -1
    | some q => nI q.2.1
  let eC : Option (Nat × Nat × Bool) → Bool := fun o => match o with
    | none => false
    | some q => q.2.2
  have J : ∀ (F1 : Nat → Int32) (A1 : Nat → Nat → Int32), frm [20, 24, 25] F0 F1 → frm [6, 21, 22, 23] A A1 → LnE A1 (prs n f) → (∀ k, k < 24 → A1 6 k = f k) → Z X [some (zr 1 0), none, some (zi (eI (bres n f))), some (zi (eJ (bres n f))), some (zi (bI (eC (bres n f)))), none, none, none, none] [] [zH, zG F1 G A1 B] 0 0 128 := by
    intro F1 A1 hF hA hE hf1
    rcases hq : bres n f with _ | q
    · have hb := bnx_n hq
      refine z_iload_n F dX6_betters_128 rfl ?_
      refine z_iconst F (-1) dX6_betters_129 rfl ?_
      refine z_icmp_eq F (tgt := 148) dX6_betters_130 (by decide) (fun c_130 => ?_) (fun c_130 => ?_)
      · refine z_iconstB F false dX6_betters_148 rfl ?_
        exact z_zret F E rfl rfl dX6_betters_149 (by omega) (by omega) (⟨by rw [hq]; rfl, F1, A1, rfl, hF, hA, by rw [hb]; exact hf1⟩)
      · exact absurd rfl c_130
    · obtain ⟨i, j, cr⟩ := q
      obtain ⟨q1, q2, q3, q4⟩ := bres_in hq
      simp only at q1 q2 q3 q4
      have hb : bnx n f = cgo n f i j cr := bnx_s hq
      obtain ⟨r1, r2, r3, r4⟩ := c34 h q2 cr
      obtain ⟨p1, p2, p3⟩ := prs_at (show i < (prs n f).length by omega)
      refine z_leq (L' := [some (zr 1 0), none, some (zi (nI i)), some (zi (nI j)), some (zi (bI cr)), none, none, none, none]) rfl ?_
      refine z_iload_n F dX6_betters_128 rfl ?_
      refine z_iconst F (-1) dX6_betters_129 rfl ?_
      refine z_icmp_eq F (tgt := 148) dX6_betters_130 (by decide) (fun c_130 => ?_) (fun c_130 => ?_)
      · exact absurd c_130 (nI_ne (by omega))
      · refine z_aload_n F dX6_betters_133 rfl ?_
        refine z_iload_n F dX6_betters_134 rfl ?_
        refine z_iload_n F dX6_betters_135 rfl ?_
        refine z_iload F dX6_betters_136 rfl ?_
        refine z_callV F (c_mchg _ _ _ _ n d f i j cr h hE hf1 (by omega) q2) 3 rfl (lw_V q1949 q1951 qs74 q117 q1952) (by decide +kernel) ⟨Nat.le_of_ble_eq_true rfl, Nat.le_of_ble_eq_true rfl⟩ ⟨by omega, by omega⟩ [0, 1] 2 ⟨rfl, rfl, rfl, ⟨Or.inl rfl, Or.inr rfl, trivial⟩⟩ (fun h => nomatch h) (Nat.le_of_ble_eq_true rfl) ⟨⟨Or.inr trivial, Or.inl rfl, trivial⟩, rfl, rfl, rfl, Nat.le_of_ble_eq_true rfl⟩ rfl zC6 (zat_G0 rfl) rfl dX6_betters_138 (fun r_138 w_138 hp => ?_) (fun _ _ h => h.elim)
        obtain ⟨rfl, rfl⟩ := hp
        rw [q3, if_pos rfl]
        refine z_weq (w' := [zH, zG _ _ _ _]) rfl ?_
        refine z_seq (S' := zi _ :: _) rfl ?_
        refine z_if_eqB F (tgt := 148) dX6_betters_141 (by decide) (fun c_141 => ?_) (fun c_141 => ?_)
        · cases c_141
        · refine z_iconstB F true dX6_betters_144 rfl ?_
          refine z_goto F (tgt := 149) dX6_betters_145 (by decide) ?_
          exact z_zret F E rfl rfl dX6_betters_149 (by omega) (by omega) (⟨by rw [hq]; rfl, F1, _, rfl, hF, frm_fA hA (by decide), fun k hk => by rw [fA_at, hb]; exact chg_cong hf1 (by omega) (by omega) (by omega) (by omega) k hk⟩)
  have l46 : ∀ (i j : Nat) (s : BS), i < j → j < (prs n f).length → bin n f s → (∀ F1 A1, F1 20 = nI (prs n f).length → frm [20, 24, 25] F0 F1 → frm [6, 21, 22, 23] A A1 → LnE A1 (prs n f) → (∀ k, k < 24 → A1 6 k = f k) → Z X [some (zr 1 0), some (zi (nI (bsc n f i j s 2).1)), some (zi (eI (bsc n f i j s 2).2)), some (zi (eJ (bsc n f i j s 2).2)), some (zi (bI (eC (bsc n f i j s 2).2))), some (zi (nI i)), some (zi (nI j)), none, none] [] [zH, zG F1 G A1 B] 0 0 116) →
      ∀ (m c : Nat) (F1 : Nat → Int32) (A1 : Nat → Nat → Int32), 2 - c < m → c ≤ 2 → F1 20 = nI (prs n f).length → frm [20, 24, 25] F0 F1 → frm [6, 21, 22, 23] A A1 → LnE A1 (prs n f) → (∀ k, k < 24 → A1 6 k = f k) → Z X [some (zr 1 0), some (zi (nI (bsc n f i j s c).1)), some (zi (eI (bsc n f i j s c).2)), some (zi (eJ (bsc n f i j s c).2)), some (zi (bI (eC (bsc n f i j s c).2))), some (zi (nI i)), some (zi (nI j)), some (zi (nI c)), none] [] [zH, zG F1 G A1 B] 0 0 46 := by
    intro i j s hij hj hs kk m
    induction m with
    | zero => intro c F1 A1 hm; omega
    | succ m ih =>
      intro c F1 A1 hm hc g20 hF hA hE hf1
      have hsc := (bsc_in hij hj hs c).le
      have J2 : ∀ (cr : Bool) (F1 : Nat → Int32) (A1 : Nat → Nat → Int32), cr = decide (c = 1) → c < 2 → F1 20 = nI (prs n f).length → frm [20, 24, 25] F0 F1 → frm [6, 21, 22, 23] A A1 → LnE A1 (prs n f) → (∀ k, k < 24 → A1 6 k = f k) → Z X [some (zr 1 0), some (zi (nI (bsc n f i j s c).1)), some (zi (eI (bsc n f i j s c).2)), some (zi (eJ (bsc n f i j s c).2)), some (zi (bI (eC (bsc n f i j s c).2))), some (zi (nI i)), some (zi (nI j)), some (zi (nI c)), some (zi (if cok n f i j cr then nI (cpr n (cgo n f i j cr)) else -1))] [] [zH, zG F1 G A1 B] 0 0 73 := by
        intro cr F1 A1 hcr hc2 g20 hF hA hE hf1
        have fin : ∀ (x : Nat) (y1 y2 : Int32) (y3 : Bool) (o : Option zV), x = (bst n f i j cr (bsc n f i j s c)).1 → y1 = eI (bst n f i j cr (bsc n f i j s c)).2 → y2 = eJ (bst n f i j cr (bsc n f i j s c)).2 → y3 = eC (bst n f i j cr (bsc n f i j s c)).2 → Z X [some (zr 1 0), some (zi (nI x)), some (zi y1), some (zi y2), some (zi (bI y3)), some (zi (nI i)), some (zi (nI j)), some (zi (nI (c + 1))), o] [] [zH, zG F1 G A1 B] 0 0 46 := by
          intro x y1 y2 y3 o h1 h2 h3 h5
          subst h1 h2 h3 h5 hcr
          refine z_loc _ ?_ (ih (c + 1) F1 A1 (by omega) (by omega) g20 hF hA hE hf1)
          exact ⟨rfl, rfl, rfl, rfl, rfl, rfl, rfl, rfl, trivial⟩
        rcases hk : cok n f i j cr with _ | _
        · rw [if_neg (by decide)]
          refine z_iload F dX6_betters_73 rfl ?_
          refine z_iconst F (-1) dX6_betters_75 rfl ?_
          refine z_icmp_eq F (tgt := 110) dX6_betters_76 (by decide) (fun c_76 => ?_) (fun c_76 => ?_)
          · refine z_iincN F 1 dX6_betters_110 rfl rfl ?_
            refine z_leq (L' := [_, _, _, _, _, _, _, _, _]) rfl ?_
            refine z_goto F (tgt := 46) dX6_betters_113 (by decide) ?_
            exact fin _ _ _ _ _ (by rw [bst_n1 hk]) (by rw [bst_n1 hk]) (by rw [bst_n1 hk]) (by rw [bst_n1 hk])
          · exact absurd rfl c_76
        · rw [if_pos rfl]
          obtain ⟨g1, g2, g3⟩ := cgo_ok h (by omega) hj hk
          have hcg := cpr_le g1
          refine z_iload F dX6_betters_73 rfl ?_
          refine z_iconst F (-1) dX6_betters_75 rfl ?_
          refine z_icmp_eq F (tgt := 110) dX6_betters_76 (by decide) (fun c_76 => ?_) (fun c_76 => ?_)
          · exact absurd c_76 (nI_ne (by omega))
          · refine z_iload F dX6_betters_79 rfl ?_
            refine z_iload_n F dX6_betters_81 rfl ?_
            refine z_icmp_ltN F (by omega) (by omega) (tgt := 88) dX6_betters_82 (by decide) (fun c_82 => ?_) (fun c_82 => ?_)
            · refine z_iload F dX6_betters_88 rfl ?_
              refine z_istore_n F dX6_betters_90 (Nat.le_of_ble_eq_true rfl) ?_
              refine z_leq (L' := [_, _, _, _, _, _, _, _, _]) rfl ?_
              refine z_iload F dX6_betters_91 rfl ?_
              refine z_istore_n F dX6_betters_93 (Nat.le_of_ble_eq_true rfl) ?_
              refine z_leq (L' := [_, _, _, _, _, _, _, _, _]) rfl ?_
              refine z_iload F dX6_betters_94 rfl ?_
              refine z_istore_n F dX6_betters_96 (Nat.le_of_ble_eq_true rfl) ?_
              refine z_leq (L' := [_, _, _, _, _, _, _, _, _]) rfl ?_
              refine z_iload F dX6_betters_97 rfl ?_
              refine z_iconst F (nI 1) dX6_betters_99 rfl ?_
              refine z_icmp_neN F (by omega) (by omega) (tgt := 107) dX6_betters_100 (by decide) (fun c_100 => ?_) (fun c_100 => ?_)
              · refine z_iconstB F false dX6_betters_107 rfl ?_
                refine z_istore F dX6_betters_108 (Nat.le_of_ble_eq_true rfl) ?_
                refine z_leq (L' := [_, _, _, _, _, _, _, _, _]) rfl ?_
                refine z_iincN F 1 dX6_betters_110 rfl rfl ?_
                refine z_leq (L' := [_, _, _, _, _, _, _, _, _]) rfl ?_
                refine z_goto F (tgt := 46) dX6_betters_113 (by decide) ?_
                exact fin _ _ _ false _ (by rw [bst_y hk c_82]) (by rw [bst_y hk c_82]) (by rw [bst_y hk c_82]) (by rw [bst_y hk c_82]; exact (hcr.trans (decide_eq_false c_100)).symm)
              · refine z_iconstB F true dX6_betters_103 rfl ?_
                refine z_goto F (tgt := 108) dX6_betters_104 (by decide) ?_
                refine z_istore F dX6_betters_108 (Nat.le_of_ble_eq_true rfl) ?_
                refine z_leq (L' := [_, _, _, _, _, _, _, _, _]) rfl ?_
                refine z_iincN F 1 dX6_betters_110 rfl rfl ?_
                refine z_leq (L' := [_, _, _, _, _, _, _, _, _]) rfl ?_
                refine z_goto F (tgt := 46) dX6_betters_113 (by decide) ?_
                exact fin _ _ _ true _ (by rw [bst_y hk c_82]) (by rw [bst_y hk c_82]) (by rw [bst_y hk c_82]) (by rw [bst_y hk c_82]; exact (hcr.trans (decide_eq_true c_100)).symm)
            · refine z_goto F (tgt := 110) dX6_betters_85 (by decide) ?_
              refine z_iincN F 1 dX6_betters_110 rfl rfl ?_
              refine z_leq (L' := [_, _, _, _, _, _, _, _, _]) rfl ?_
              refine z_goto F (tgt := 46) dX6_betters_113 (by decide) ?_
              exact fin _ _ _ _ _ (by rw [bst_n2 c_82]) (by rw [bst_n2 c_82]) (by rw [bst_n2 c_82]) (by rw [bst_n2 c_82])
      refine z_iload F dX6_betters_46 rfl ?_
      refine z_iconst F (nI 2) dX6_betters_48 rfl ?_
      refine z_icmp_geN F (by omega) (by omega) (tgt := 116) dX6_betters_49 (by decide) (fun c_49 => ?_) (fun c_49 => ?_)
      · have ec : c = 2 := by omega
        subst ec
        refine z_loc _ ?_ (kk F1 A1 g20 hF hA hE hf1)
        exact ⟨rfl, rfl, rfl, rfl, rfl, rfl, rfl, trivial⟩
      · refine z_aload_n F dX6_betters_52 rfl ?_
        refine z_iload F dX6_betters_53 rfl ?_
        refine z_iload F dX6_betters_55 rfl ?_
        refine z_iload F dX6_betters_57 rfl ?_
        refine z_iconst F (nI 1) dX6_betters_59 rfl ?_
        refine z_icmp_neN F (by omega) (by omega) (tgt := 67) dX6_betters_60 (by decide) (fun c_60 => ?_) (fun c_60 => ?_)
        · refine z_iconstB F false dX6_betters_67 rfl ?_
          refine z_callV F (c_mpriceOf _ _ _ _ n d f i j false h ((hF.at 4 rfl).trans h4) hE hf1 (by omega) hj) 3 rfl (lw_V q1961 q1963 qs76 q117 q1964) (by decide +kernel) ⟨Nat.le_of_ble_eq_true rfl, Nat.le_of_ble_eq_true rfl⟩ ⟨by omega, by omega⟩ [0, 1] 2 ⟨rfl, rfl, rfl, ⟨Or.inl rfl, Or.inr rfl, trivial⟩⟩ (fun h => nomatch h) (Nat.le_of_ble_eq_true rfl) ⟨⟨Or.inr trivial, Or.inl rfl, trivial⟩, rfl, rfl, rfl, Nat.le_of_ble_eq_true rfl⟩ rfl zC6 (zat_G0 rfl) rfl dX6_betters_68 (fun r_68 w_68 hp => ?_) (fun _ _ h => h.elim)
          obtain ⟨rfl, F2, A2, rfl, a1, a2, a3⟩ := hp
          refine z_weq (w' := [zH, zG _ _ _ _]) rfl ?_
          refine z_seq (S' := zi _ :: _) rfl ?_
          refine z_istore F dX6_betters_71 (Nat.le_of_ble_eq_true rfl) ?_
          refine z_leq (L' := [_, _, _, _, _, _, _, _, _]) rfl ?_
          exact J2 false F2 A2 (decide_eq_false c_60).symm (by omega) ((a1.at 20 rfl).trans g20) (hF.tr a1 (by decide) (by decide)) (hA.tr a2 (by decide) (by decide)) (hE.to (a2.at 21 rfl) (a2.at 22 rfl)) a3
        · refine z_iconstB F true dX6_betters_63 rfl ?_
          refine z_goto F (tgt := 68) dX6_betters_64 (by decide) ?_
          refine z_callV F (c_mpriceOf _ _ _ _ n d f i j true h ((hF.at 4 rfl).trans h4) hE hf1 (by omega) hj) 3 rfl (lw_V q1961 q1963 qs76 q117 q1964) (by decide +kernel) ⟨Nat.le_of_ble_eq_true rfl, Nat.le_of_ble_eq_true rfl⟩ ⟨by omega, by omega⟩ [0, 1] 2 ⟨rfl, rfl, rfl, ⟨Or.inl rfl, Or.inr rfl, trivial⟩⟩ (fun h => nomatch h) (Nat.le_of_ble_eq_true rfl) ⟨⟨Or.inr trivial, Or.inl rfl, trivial⟩, rfl, rfl, rfl, Nat.le_of_ble_eq_true rfl⟩ rfl zC6 (zat_G0 rfl) rfl dX6_betters_68 (fun r_68 w_68 hp => ?_) (fun _ _ h => h.elim)
          obtain ⟨rfl, F2, A2, rfl, a1, a2, a3⟩ := hp
          refine z_weq (w' := [zH, zG _ _ _ _]) rfl ?_
          refine z_seq (S' := zi _ :: _) rfl ?_
          refine z_istore F dX6_betters_71 (Nat.le_of_ble_eq_true rfl) ?_
          refine z_leq (L' := [_, _, _, _, _, _, _, _, _]) rfl ?_
          exact J2 true F2 A2 (decide_eq_true c_60).symm (by omega) ((a1.at 20 rfl).trans g20) (hF.tr a1 (by decide) (by decide)) (hA.tr a2 (by decide) (by decide)) (hE.to (a2.at 21 rfl) (a2.at 22 rfl)) a3
  have l34 : ∀ (i : Nat) (s : BS), i < (prs n f).length → bin n f s → (∀ F1 A1, F1 20 = nI (prs n f).length → frm [20, 24, 25] F0 F1 → frm [6, 21, 22, 23] A A1 → LnE A1 (prs n f) → (∀ k, k < 24 → A1 6 k = f k) → Z X [some (zr 1 0), some (zi (nI (btj n f i s (prs n f).length).1)), some (zi (eI (btj n f i s (prs n f).length).2)), some (zi (eJ (btj n f i s (prs n f).length).2)), some (zi (bI (eC (btj n f i s (prs n f).length).2))), some (zi (nI i)), none, none, none] [] [zH, zG F1 G A1 B] 0 0 122) →
      ∀ (m j : Nat) (F1 : Nat → Int32) (A1 : Nat → Nat → Int32), (prs n f).length + 1 - j < m → i < j → j ≤ (prs n f).length → F1 20 = nI (prs n f).length → frm [20, 24, 25] F0 F1 → frm [6, 21, 22, 23] A A1 → LnE A1 (prs n f) → (∀ k, k < 24 → A1 6 k = f k) → Z X [some (zr 1 0), some (zi (nI (btj n f i s j).1)), some (zi (eI (btj n f i s j).2)), some (zi (eJ (btj n f i s j).2)), some (zi (bI (eC (btj n f i s j).2))), some (zi (nI i)), some (zi (nI j)), none, none] [] [zH, zG F1 G A1 B] 0 0 34 := by
    intro i s hi hs kk m
    induction m with
    | zero => intro j F1 A1 hm; omega
    | succ m ih =>
      intro j F1 A1 hm hij hj g20 hF hA hE hf1
      have hb := btj_in (i := i) hs j hj
      have hsc := hb.le
      have back : ∀ (F1 : Nat → Int32) (A1 : Nat → Nat → Int32), F1 20 = nI (prs n f).length → frm [20, 24, 25] F0 F1 → frm [6, 21, 22, 23] A A1 → LnE A1 (prs n f) → (∀ k, k < 24 → A1 6 k = f k) → j < (prs n f).length → Z X [some (zr 1 0), some (zi (nI (bsc n f i j (btj n f i s j) 2).1)), some (zi (eI (bsc n f i j (btj n f i s j) 2).2)), some (zi (eJ (bsc n f i j (btj n f i s j) 2).2)), some (zi (bI (eC (bsc n f i j (btj n f i s j) 2).2))), some (zi (nI i)), some (zi (nI j)), none, none] [] [zH, zG F1 G A1 B] 0 0 116 := by
        intro F1 A1 g20 hF hA hE hf1 hj2
        have e : btj n f i s (j + 1) = bsc n f i j (btj n f i s j) 2 := by rw [btj, if_pos hij]
        refine z_iincN F 1 dX6_betters_116 rfl rfl ?_
        refine z_leq (L' := [_, _, _, _, _, _, _, _, _]) rfl ?_
        refine z_goto F (tgt := 34) dX6_betters_119 (by decide) ?_
        have hh := ih (j + 1) F1 A1 (by omega) (by omega) (by omega) g20 hF hA hE hf1
        rw [e] at hh
        exact hh
      refine z_iload F dX6_betters_34 rfl ?_
      refine z_aload_n F dX6_betters_36 rfl ?_
      refine z_mi F rfl 20 rfl (Nat.le_of_ble_eq_true rfl) rfl q1500 dX6_betters_37 ?_
      refine z_ieq (g20) ?_
      refine z_icmp_geN F (by omega) (by omega) (tgt := 122) dX6_betters_40 (by decide) (fun c_40 => ?_) (fun c_40 => ?_)
      · have ej : j = (prs n f).length := by omega
        rw [ej]
        refine z_loc _ ?_ (kk F1 A1 g20 hF hA hE hf1)
        exact ⟨rfl, rfl, rfl, rfl, rfl, rfl, trivial⟩
      · refine z_iconst F (nI 0) dX6_betters_43 rfl ?_
        refine z_istore F dX6_betters_44 (Nat.le_of_ble_eq_true rfl) ?_
        refine z_leq (L' := [_, _, _, _, _, _, _, _, _]) rfl ?_
        exact l46 i j (btj n f i s j) hij (by omega) hb (fun F1 A1 a b c d e => back F1 A1 a b c d e (by omega)) _ 0 F1 A1 (Nat.lt_succ_self _) (by omega) g20 hF hA hE hf1
  have l19 : ∀ (m i : Nat) (F1 : Nat → Int32) (A1 : Nat → Nat → Int32), (prs n f).length - i < m → i ≤ (prs n f).length → F1 20 = nI (prs n f).length → frm [20, 24, 25] F0 F1 → frm [6, 21, 22, 23] A A1 → LnE A1 (prs n f) → (∀ k, k < 24 → A1 6 k = f k) → Z X [some (zr 1 0), some (zi (nI (bti n f i).1)), some (zi (eI (bti n f i).2)), some (zi (eJ (bti n f i).2)), some (zi (bI (eC (bti n f i).2))), some (zi (nI i)), none, none, none] [] [zH, zG F1 G A1 B] 0 0 19 := by
    intro m
    induction m with
    | zero => intro i F1 A1 hm; omega
    | succ m ih =>
      intro i F1 A1 hm hi g20 hF hA hE hf1
      have hb := bti_in (n := n) (f := f) i
      have hsc := hb.le
      have back : ∀ (F1 : Nat → Int32) (A1 : Nat → Nat → Int32), F1 20 = nI (prs n f).length → frm [20, 24, 25] F0 F1 → frm [6, 21, 22, 23] A A1 → LnE A1 (prs n f) → (∀ k, k < 24 → A1 6 k = f k) → i < (prs n f).length → Z X [some (zr 1 0), some (zi (nI (btj n f i (bti n f i) (prs n f).length).1)), some (zi (eI (btj n f i (bti n f i) (prs n f).length).2)), some (zi (eJ (btj n f i (bti n f i) (prs n f).length).2)), some (zi (bI (eC (btj n f i (bti n f i) (prs n f).length).2))), some (zi (nI i)), none, none, none] [] [zH, zG F1 G A1 B] 0 0 122 := by
        intro F1 A1 g20 hF hA hE hf1 hi2
        refine z_iincN F 1 dX6_betters_122 rfl rfl ?_
        refine z_leq (L' := [_, _, _, _, _, _, _, _, _]) rfl ?_
        refine z_goto F (tgt := 19) dX6_betters_125 (by decide) ?_
        exact ih (i + 1) F1 A1 (by omega) (by omega) g20 hF hA hE hf1
      refine z_iload F dX6_betters_19 rfl ?_
      refine z_aload_n F dX6_betters_21 rfl ?_
      refine z_mi F rfl 20 rfl (Nat.le_of_ble_eq_true rfl) rfl q1500 dX6_betters_22 ?_
      refine z_ieq (g20) ?_
      refine z_icmp_geN F (by omega) (by omega) (tgt := 128) dX6_betters_25 (by decide) (fun c_25 => ?_) (fun c_25 => ?_)
      · have ei : i = (prs n f).length := by omega
        have hJ := J F1 A1 hF hA hE hf1
        rw [ei]
        refine z_loc _ ?_ hJ
        exact ⟨rfl, rfl, rfl, rfl, trivial⟩
      · refine z_iload F dX6_betters_28 rfl ?_
        refine z_iconst F (nI 1) dX6_betters_30 rfl ?_
        refine z_iaddN F dX6_betters_31 ?_
        refine z_istore F dX6_betters_32 (Nat.le_of_ble_eq_true rfl) ?_
        refine z_leq (L' := [_, _, _, _, _, _, _, _, _]) rfl ?_
        have hh := l34 i (bti n f i) (by omega) hb (fun F1 A1 a b c d e => back F1 A1 a b c d e (by omega)) _ (i + 1) F1 A1 (Nat.lt_succ_self _) (by omega) (by omega) g20 hF hA hE hf1
        rw [btj_lo _ (Nat.le_refl _)] at hh
        exact hh
  refine z_aload_n F dX6_betters_0 rfl ?_
  refine z_callV F (c_lists F0 _ _ _ n f h24 h96 h4 (fun k hk => hf k (by omega))) 0 rfl (lw_V q1868 q1870 qs62 q117 q1871) (by decide +kernel) ⟨Nat.le_of_ble_eq_true rfl, Nat.le_of_ble_eq_true rfl⟩ ⟨by omega, by omega⟩ [0, 1] 2 ⟨rfl, rfl, rfl, ⟨Or.inl rfl, Or.inr rfl, trivial⟩⟩ (fun h => nomatch h) (Nat.le_of_ble_eq_true rfl) ⟨⟨Or.inr trivial, Or.inl rfl, trivial⟩, rfl, rfl, rfl, Nat.le_of_ble_eq_true rfl⟩ rfl zC6 (zat_G0 rfl) rfl dX6_betters_1 (fun r_1 w_1 hp => ?_) (fun _ _ h => h.elim)
  obtain ⟨rfl, A1, rfl, a1, a2⟩ := hp
  refine z_weq (w' := [zH, zG _ _ _ _]) rfl ?_
  refine z_seq (S' := []) rfl ?_
  refine z_aload_n F dX6_betters_4 rfl ?_
  refine z_callV F (c_mprice (upd F0 20 (nI (prs n f).length)) _ _ _ n f h24 h4 (fun k hk => (congrFun (a1.at 6 rfl) k).trans (hf k (by omega)))) 0 rfl (lw_V q1916 q1918 qs71 q117 q1919) (by decide +kernel) ⟨Nat.le_of_ble_eq_true rfl, Nat.le_of_ble_eq_true rfl⟩ ⟨by omega, by omega⟩ [0, 1] 2 ⟨rfl, rfl, rfl, ⟨Or.inl rfl, Or.inr rfl, trivial⟩⟩ (fun h => nomatch h) (Nat.le_of_ble_eq_true rfl) ⟨⟨Or.inr trivial, Or.inl rfl, trivial⟩, rfl, rfl, rfl, Nat.le_of_ble_eq_true rfl⟩ rfl zC6 (zat_G0 rfl) rfl dX6_betters_5 (fun r_5 w_5 hp => ?_) (fun _ _ h => h.elim)
  obtain ⟨rfl, F2, A2, rfl, b1, b2⟩ := hp
  rw [mpr_eq h24 (fun a b ha hb => h.sym ha hb)]
  refine z_weq (w' := [zH, zG _ _ _ _]) rfl ?_
  refine z_seq (S' := zi _ :: _) rfl ?_
  refine z_istore_n F dX6_betters_8 (Nat.le_of_ble_eq_true rfl) ?_
  refine z_leq (L' := [_, _, _, _, _, _, _, _, _]) rfl ?_
  refine z_iconst F (-1) dX6_betters_9 rfl ?_
  refine z_istore_n F dX6_betters_10 (Nat.le_of_ble_eq_true rfl) ?_
  refine z_leq (L' := [_, _, _, _, _, _, _, _, _]) rfl ?_
  refine z_iconst F (-1) dX6_betters_11 rfl ?_
  refine z_istore_n F dX6_betters_12 (Nat.le_of_ble_eq_true rfl) ?_
  refine z_leq (L' := [_, _, _, _, _, _, _, _, _]) rfl ?_
  refine z_iconstB F false dX6_betters_13 rfl ?_
  refine z_istore F dX6_betters_14 (Nat.le_of_ble_eq_true rfl) ?_
  refine z_leq (L' := [_, _, _, _, _, _, _, _, _]) rfl ?_
  refine z_iconst F (nI 0) dX6_betters_16 rfl ?_
  refine z_istore F dX6_betters_17 (Nat.le_of_ble_eq_true rfl) ?_
  refine z_leq (L' := [_, _, _, _, _, _, _, _, _]) rfl ?_
  exact l19 _ 0 F2 A2 (Nat.lt_succ_self _) (by omega) ((b1.at 20 rfl).trans rfl) ((frm_upd (l := [20, 24, 25]) frm.rf (by decide)).tr b1 (by decide) (by decide)) (a1.tr b2 (by decide) (by decide)) (a2.to (b2.at 21 rfl) (b2.at 22 rfl)) (fun k hk => (congrFun ((b2.at 6 rfl).trans (a1.at 6 rfl)) k).trans (hf k hk))
end C56
