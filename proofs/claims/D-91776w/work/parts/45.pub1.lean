/-! WiredNets: slots, knots, nets made, lines -/
section C45
abbrev xO (t : Nat) (fp : Int32) : zE := zO 1 [zr 0 0, zr 2 0, zr 3 0, zr 5 0, zr 9 0, zi (nI t), zi fp, zr 11 0, zr 21 0]
abbrev xH (P : zPt) (t : Nat) (fp : Int32) : List zE := [zPl (pR P) P, xO t fp, zH, zH, zH, zH, zH, zH, zH, zH, zH, zH, zH, zH, zH, zH, zH, zH, zH, zH, zH, zH]
theorem inB_slB (s : Int32) : inB s (nI 0) (nI 7) = slB s := by
  cases h : slB s with
  | true =>
    obtain ⟨j, hj, rfl⟩ := slB_of h
    exact inB_n (by omega) (by omega) (by omega)
  | false =>
    cases h2 : inB s (nI 0) (nI 7) with
    | false => rfl
    | true =>
      obtain ⟨k, h3, h4, rfl⟩ := inB_of (by omega) (by omega) h2
      rw [slB_n (by omega)] at h; cases h
theorem inB_knB {n : Nat} (h1 : 1 ≤ n) (h24 : n ≤ 24) (s : Int32) : inB s (nI 0) (nI (n - 1)) = knB n s := by
  cases h : knB n s with
  | true =>
    obtain ⟨j, hj, rfl⟩ := knB_of h24 h
    exact inB_n (by omega) (by omega) (by omega)
  | false =>
    cases h2 : inB s (nI 0) (nI (n - 1)) with
    | false => rfl
    | true =>
      obtain ⟨k, h3, h4, rfl⟩ := inB_of (by omega) (by omega) h2
      rw [knB_n (by omega) h24] at h; cases h
theorem c_xSlot (s : Int32) : zCtr yX1_isSlot cX1_isSlot 1 (some .boolean) 1 0 0 [zi s] [zH] (fun r w => r = some (zi (bI (slB s))) ∧ w = [zH]) zNx := by
  refine z_start (by decide) [some (zi s)] rfl (fun _ => Nat.le_of_ble_eq_true rfl) (fun _ => rfl) (fun X F E hno hin => ?_)
  refine z_iload_n F dX1_isSlot_0 rfl ?_
  refine z_iconst F (nI 0) dX1_isSlot_1 rfl ?_
  refine z_bipush F (nI 7) dX1_isSlot_2 rfl ?_
  refine z_callS F (c_in s (nI 0) (nI 7)) 3 rfl (lw_S q349 q350 q109 q351) (by decide +kernel) ⟨Nat.le_of_ble_eq_true rfl, Nat.le_of_ble_eq_true rfl⟩ ⟨by omega, by omega⟩ [0] 1 ⟨rfl, rfl, rfl, ⟨Or.inl rfl, trivial⟩⟩ (fun h => nomatch h) (Nat.le_of_ble_eq_true rfl) ⟨⟨Or.inr trivial, trivial⟩, rfl, rfl, rfl, Nat.le_of_ble_eq_true rfl⟩ rfl rfl dX1_isSlot_4 (fun r_4 w_4 hp => ?_) (fun _ _ h => h.elim)
  obtain ⟨rfl, rfl⟩ := hp
  refine z_weq (w' := [zH]) rfl ?_
  refine z_seq (S' := zi _ :: _) rfl ?_
  exact z_zret F E rfl (bI_nar _) dX1_isSlot_7 (by omega) (by omega) (⟨by rw [inB_slB], rfl⟩)
theorem c_fnd (b : Bool) : zCtr yX1_found cX1_found 1 none 6 1 6 [zi (bI b)] [zH] (fun r w => r = none ∧ b = true ∧ w = [zH]) (fun E w => E = eNSE ∧ b = false ∧ w = [zH]) := by
  refine z_start (by decide) [some (zi (bI b))] rfl (fun _ => Nat.le_of_ble_eq_true rfl) (fun _ => rfl) (fun X F E hno hin => ?_)
  refine z_iload_n F dX1_found_0 rfl ?_
  refine z_if_neB F (tgt := 12) dX1_found_1 (by decide) (fun c_1 => ?_) (fun c_1 => ?_)
  · exact z_vret F E rfl dX1_found_12 (by omega) (by omega) (⟨rfl, c_1, rfl⟩)
  · exact z_throw0 F E hno thr_nse (by decide) rfl (Nat.le_of_ble_eq_true rfl) dX1_found_4 dX1_found_7 dX1_found_8 dX1_found_11 (by omega) (by omega) rfl ⟨trivial, trivial⟩ (⟨rfl, c_1, rfl⟩)
theorem c_rgt (b : Bool) : zCtr yX1_right cX1_right 1 none 6 1 6 [zi (bI b)] [zH] (fun r w => r = none ∧ b = true ∧ w = [zH]) (fun E w => E = eIAE ∧ b = false ∧ w = [zH]) := by
  refine z_start (by decide) [some (zi (bI b))] rfl (fun _ => Nat.le_of_ble_eq_true rfl) (fun _ => rfl) (fun X F E hno hin => ?_)
  refine z_iload_n F dX1_right_0 rfl ?_
  refine z_if_neB F (tgt := 12) dX1_right_1 (by decide) (fun c_1 => ?_) (fun c_1 => ?_)
  · exact z_vret F E rfl dX1_right_12 (by omega) (by omega) (⟨rfl, c_1, rfl⟩)
  · exact z_throw0 F E hno thr_iae (by decide) rfl (Nat.le_of_ble_eq_true rfl) dX1_right_4 dX1_right_7 dX1_right_8 dX1_right_11 (by omega) (by omega) rfl ⟨trivial, trivial⟩ (⟨rfl, c_1, rfl⟩)
theorem c_netAt_ok (P : zPt) (t : Nat) (fp : Int32) (j : Nat) {x : Int32 × Int32 × (Nat → Int32)} (hj : j < 8) (hP : P j = some x) : zCtr yX1_netAt cX1_netAt 2 (some (.object "WiredNets$Net")) 7 1 6 [zr 1 0, zi (nI j)] (xH P t fp) (fun r w => r = some (zr 0 (2 * j + 1)) ∧ w = xH P t fp) zNx := by
  refine z_start (by decide) [some (zr 1 0), some (zi (nI j))] rfl (fun _ => Nat.le_of_ble_eq_true rfl) (fun _ => rfl) (fun X F E hno hin => ?_)
  refine z_iload_n F dX1_netAt_0 rfl ?_
  refine z_callS F (c_xSlot (nI j)) 1 rfl (lw_S q346 q347 q109 q348) (by decide +kernel) ⟨Nat.le_of_ble_eq_true rfl, Nat.le_of_ble_eq_true rfl⟩ ⟨by omega, by omega⟩ [0] 22 ⟨rfl, rfl, rfl, ⟨Or.inl rfl, trivial⟩⟩ (fun h => nomatch h) (Nat.le_of_ble_eq_true rfl) ⟨⟨Or.inr (by first | exact ⟨rfl, pR_B _ (by decide)⟩ | exact ⟨rfl, uR_B (by decide) (by decide)⟩), Or.inr rfl, Or.inr trivial, Or.inr trivial, Or.inr trivial, Or.inr trivial, Or.inr trivial, Or.inr trivial, Or.inr trivial, Or.inr trivial, Or.inr trivial, Or.inr trivial, Or.inr trivial, Or.inr trivial, Or.inr trivial, Or.inr trivial, Or.inr trivial, Or.inr trivial, Or.inr trivial, Or.inr trivial, Or.inr trivial, Or.inr trivial, trivial⟩, rfl, rfl, rfl, Nat.le_of_ble_eq_true rfl⟩ rfl rfl dX1_netAt_1 (fun r_1 w_1 hp => ?_) (fun _ _ h => h.elim)
  obtain ⟨rfl, rfl⟩ := hp
  refine z_weq (w' := [zPl _ _, zO _ [zr _ _, zr _ _, zr _ _, zr _ _, zr _ _, zi _, zi _, zr _ _, zr _ _], zH, zH, zH, zH, zH, zH, zH, zH, zH, zH, zH, zH, zH, zH, zH, zH, zH, zH, zH, zH]) rfl ?_
  refine z_seq (S' := zi _ :: _) rfl ?_
  refine z_if_eqB F (tgt := 20) dX1_netAt_4 (by decide) (fun c_4 => ?_) (fun c_4 => ?_)
  · rw [slB_n hj] at c_4; cases c_4
  · refine z_aload_n F dX1_netAt_7 rfl ?_
    refine z_get F zC1 (f := 0) rfl (Nat.le_of_ble_eq_true rfl) q313 rfl dX1_netAt_8 ?_
    refine z_iload_n F dX1_netAt_11 rfl ?_
    refine z_aaldP F (by omega) (pR_some hP) (Or.inl ⟨_, rfl⟩) dX1_netAt_12 ?_
    refine z_ifnull F dX1_netAt_13 ?_
    refine z_iconstB F true dX1_netAt_16 rfl ?_
    refine z_goto F (tgt := 21) dX1_netAt_17 (by decide) ?_
    refine z_callS F (c_fnd true) 1 rfl (lw_S q433 q434 q109 q435) (by decide +kernel) ⟨Nat.le_of_ble_eq_true rfl, Nat.le_of_ble_eq_true rfl⟩ ⟨by omega, by omega⟩ [0] 22 ⟨rfl, rfl, rfl, ⟨Or.inl rfl, trivial⟩⟩ (fun h => nomatch h) (Nat.le_of_ble_eq_true rfl) ⟨⟨Or.inr (by first | exact ⟨rfl, pR_B _ (by decide)⟩ | exact ⟨rfl, uR_B (by decide) (by decide)⟩), Or.inr rfl, Or.inr trivial, Or.inr trivial, Or.inr trivial, Or.inr trivial, Or.inr trivial, Or.inr trivial, Or.inr trivial, Or.inr trivial, Or.inr trivial, Or.inr trivial, Or.inr trivial, Or.inr trivial, Or.inr trivial, Or.inr trivial, Or.inr trivial, Or.inr trivial, Or.inr trivial, Or.inr trivial, Or.inr trivial, Or.inr trivial, trivial⟩, rfl, rfl, rfl, Nat.le_of_ble_eq_true rfl⟩ rfl rfl dX1_netAt_21 (fun r_21 w_21 hp => ?_) (fun E_ w_ hx => by obtain ⟨-, hb, -⟩ := hx; cases hb)
    obtain ⟨rfl, -, rfl⟩ := hp
    refine z_weq (w' := [zPl _ _, zO _ [zr _ _, zr _ _, zr _ _, zr _ _, zr _ _, zi _, zi _, zr _ _, zr _ _], zH, zH, zH, zH, zH, zH, zH, zH, zH, zH, zH, zH, zH, zH, zH, zH, zH, zH, zH, zH]) rfl ?_
    refine z_seq (S' := []) rfl ?_
    refine z_aload_n F dX1_netAt_24 rfl ?_
    refine z_get F zC1 (f := 0) rfl (Nat.le_of_ble_eq_true rfl) q313 rfl dX1_netAt_25 ?_
    refine z_iload_n F dX1_netAt_28 rfl ?_
    refine z_aaldP F (by omega) (pR_some hP) (Or.inl ⟨_, rfl⟩) dX1_netAt_29 ?_
    exact z_aret F E rfl (Or.inl ⟨_, rfl⟩) dX1_netAt_30 (by omega) (by omega) (⟨rfl, rfl⟩)
theorem c_netAt_no (P : zPt) (t : Nat) (fp : Int32) (s : Int32) (hs : ∀ j, j < 8 → s = nI j → P j = none) : zCtr yX1_netAt cX1_netAt 2 (some (.object "WiredNets$Net")) 7 1 6 [zr 1 0, zi s] (xH P t fp) (fun r w => False) (fun E w => E = eNSE ∧ True ∧ w = xH P t fp) := by
  refine z_start (by decide) [some (zr 1 0), some (zi s)] rfl (fun _ => Nat.le_of_ble_eq_true rfl) (fun _ => rfl) (fun X F E hno hin => ?_)
  refine z_iload_n F dX1_netAt_0 rfl ?_
  refine z_callS F (c_xSlot s) 1 rfl (lw_S q346 q347 q109 q348) (by decide +kernel) ⟨Nat.le_of_ble_eq_true rfl, Nat.le_of_ble_eq_true rfl⟩ ⟨by omega, by omega⟩ [0] 22 ⟨rfl, rfl, rfl, ⟨Or.inl rfl, trivial⟩⟩ (fun h => nomatch h) (Nat.le_of_ble_eq_true rfl) ⟨⟨Or.inr (by first | exact ⟨rfl, pR_B _ (by decide)⟩ | exact ⟨rfl, uR_B (by decide) (by decide)⟩), Or.inr rfl, Or.inr trivial, Or.inr trivial, Or.inr trivial, Or.inr trivial, Or.inr trivial, Or.inr trivial, Or.inr trivial, Or.inr trivial, Or.inr trivial, Or.inr trivial, Or.inr trivial, Or.inr trivial, Or.inr trivial, Or.inr trivial, Or.inr trivial, Or.inr trivial, Or.inr trivial, Or.inr trivial, Or.inr trivial, Or.inr trivial, trivial⟩, rfl, rfl, rfl, Nat.le_of_ble_eq_true rfl⟩ rfl rfl dX1_netAt_1 (fun r_1 w_1 hp => ?_) (fun _ _ h => h.elim)
  obtain ⟨rfl, rfl⟩ := hp
  refine z_weq (w' := [zPl _ _, zO _ [zr _ _, zr _ _, zr _ _, zr _ _, zr _ _, zi _, zi _, zr _ _, zr _ _], zH, zH, zH, zH, zH, zH, zH, zH, zH, zH, zH, zH, zH, zH, zH, zH, zH, zH, zH, zH]) rfl ?_
  refine z_seq (S' := zi _ :: _) rfl ?_
  refine z_if_eqB F (tgt := 20) dX1_netAt_4 (by decide) (fun c_4 => ?_) (fun c_4 => ?_)
  · refine z_iconstB F false dX1_netAt_20 rfl ?_
    refine z_callS F (c_fnd false) 1 rfl (lw_S q433 q434 q109 q435) (by decide +kernel) ⟨Nat.le_of_ble_eq_true rfl, Nat.le_of_ble_eq_true rfl⟩ ⟨by omega, by omega⟩ [0] 22 ⟨rfl, rfl, rfl, ⟨Or.inl rfl, trivial⟩⟩ (fun h => nomatch h) (Nat.le_of_ble_eq_true rfl) ⟨⟨Or.inr (by first | exact ⟨rfl, pR_B _ (by decide)⟩ | exact ⟨rfl, uR_B (by decide) (by decide)⟩), Or.inr rfl, Or.inr trivial, Or.inr trivial, Or.inr trivial, Or.inr trivial, Or.inr trivial, Or.inr trivial, Or.inr trivial, Or.inr trivial, Or.inr trivial, Or.inr trivial, Or.inr trivial, Or.inr trivial, Or.inr trivial, Or.inr trivial, Or.inr trivial, Or.inr trivial, Or.inr trivial, Or.inr trivial, Or.inr trivial, Or.inr trivial, trivial⟩, rfl, rfl, rfl, Nat.le_of_ble_eq_true rfl⟩ rfl rfl dX1_netAt_21 (fun r_21 w_21 hp => ?_) (fun E_ w_ hx => by obtain ⟨rfl, -, rfl⟩ := hx; exact zx_out F E hno (by omega) (by omega) ⟨rfl, trivial, rfl⟩)
    exact nomatch hp.2.1
  · obtain ⟨j, hj, rfl⟩ := slB_of c_4
    have hP := hs j hj rfl
    refine z_aload_n F dX1_netAt_7 rfl ?_
    refine z_get F zC1 (f := 0) rfl (Nat.le_of_ble_eq_true rfl) q313 rfl dX1_netAt_8 ?_
    refine z_iload_n F dX1_netAt_11 rfl ?_
    refine z_aaldP F (by omega) (pR_none hP) (Or.inr (Or.inr rfl)) dX1_netAt_12 ?_
    refine z_ifnullN F (tgt := 20) dX1_netAt_13 (by decide) ?_
    refine z_iconstB F false dX1_netAt_20 rfl ?_
    refine z_callS F (c_fnd false) 1 rfl (lw_S q433 q434 q109 q435) (by decide +kernel) ⟨Nat.le_of_ble_eq_true rfl, Nat.le_of_ble_eq_true rfl⟩ ⟨by omega, by omega⟩ [0] 22 ⟨rfl, rfl, rfl, ⟨Or.inl rfl, trivial⟩⟩ (fun h => nomatch h) (Nat.le_of_ble_eq_true rfl) ⟨⟨Or.inr (by first | exact ⟨rfl, pR_B _ (by decide)⟩ | exact ⟨rfl, uR_B (by decide) (by decide)⟩), Or.inr rfl, Or.inr trivial, Or.inr trivial, Or.inr trivial, Or.inr trivial, Or.inr trivial, Or.inr trivial, Or.inr trivial, Or.inr trivial, Or.inr trivial, Or.inr trivial, Or.inr trivial, Or.inr trivial, Or.inr trivial, Or.inr trivial, Or.inr trivial, Or.inr trivial, Or.inr trivial, Or.inr trivial, Or.inr trivial, Or.inr trivial, trivial⟩, rfl, rfl, rfl, Nat.le_of_ble_eq_true rfl⟩ rfl rfl dX1_netAt_21 (fun r_21 w_21 hp => ?_) (fun E_ w_ hx => by obtain ⟨rfl, -, rfl⟩ := hx; exact zx_out F E hno (by omega) (by omega) ⟨rfl, trivial, rfl⟩)
    exact nomatch hp.2.1
theorem c_knot (n : Nat) (d : Int32) (k : Int32) (h1 : 1 ≤ n) (h24 : n ≤ 24) : zCtr yX1_knot cX1_knot 2 none 7 1 6 [zr 1 0, zi k] [zH, eNet 2 (nI n) d, zH] (fun r w => r = none ∧ knB n k = true ∧ w = [zH, eNet 2 (nI n) d, zH]) (fun E w => E = eNSE ∧ knB n k = false ∧ w = [zH, eNet 2 (nI n) d, zH]) := by
  refine z_start (by decide) [some (zr 1 0), some (zi k)] rfl (fun _ => Nat.le_of_ble_eq_true rfl) (fun _ => rfl) (fun X F E hno hin => ?_)
  refine z_iload_n F dX1_knot_0 rfl ?_
  refine z_iconst F (nI 0) dX1_knot_1 rfl ?_
  refine z_aload_n F dX1_knot_2 rfl ?_
  refine z_getN F zC5 (f := 0) rfl (Nat.le_of_ble_eq_true rfl) q245 rfl dX1_knot_3 ?_
  refine z_iconst F (nI 1) dX1_knot_6 rfl ?_
  refine z_isubN F (by omega) dX1_knot_7 ?_
  refine z_callS F (c_in k (nI 0) (nI (n - 1))) 3 rfl (lw_S q349 q350 q109 q351) (by decide +kernel) ⟨Nat.le_of_ble_eq_true rfl, Nat.le_of_ble_eq_true rfl⟩ ⟨by omega, by omega⟩ [0] 3 ⟨rfl, rfl, rfl, ⟨Or.inl rfl, trivial⟩⟩ (fun h => nomatch h) (Nat.le_of_ble_eq_true rfl) ⟨⟨Or.inr trivial, Or.inr rfl, Or.inr trivial, trivial⟩, rfl, rfl, rfl, Nat.le_of_ble_eq_true rfl⟩ rfl rfl dX1_knot_8 (fun r_8 w_8 hp => ?_) (fun _ _ h => h.elim)
  obtain ⟨rfl, rfl⟩ := hp
  rw [inB_knB h1 h24]
  refine z_weq (w' := [zH, zO _ [zi _, zi _, zr _ _], zH]) rfl ?_
  refine z_seq (S' := zi _ :: _) rfl ?_
  refine z_callS F (c_fnd (knB n k)) 1 rfl (lw_S q433 q434 q109 q435) (by decide +kernel) ⟨Nat.le_of_ble_eq_true rfl, Nat.le_of_ble_eq_true rfl⟩ ⟨by omega, by omega⟩ [0] 3 ⟨rfl, rfl, rfl, ⟨Or.inl rfl, trivial⟩⟩ (fun h => nomatch h) (Nat.le_of_ble_eq_true rfl) ⟨⟨Or.inr trivial, Or.inr rfl, Or.inr trivial, trivial⟩, rfl, rfl, rfl, Nat.le_of_ble_eq_true rfl⟩ rfl rfl dX1_knot_11 (fun r_11 w_11 hp => ?_) (fun E_ w_ hx => by obtain ⟨rfl, hb, rfl⟩ := hx; exact zx_out F E hno (by omega) (by omega) (⟨rfl, hb, rfl⟩))
  obtain ⟨rfl, hb, rfl⟩ := hp
  refine z_weq (w' := [zH, zO _ [zi _, zi _, zr _ _], zH]) rfl ?_
  refine z_seq (S' := []) rfl ?_
  exact z_vret F E rfl dX1_knot_14 (by omega) (by omega) (⟨rfl, hb, rfl⟩)
theorem c_pnet (P : zPt) (t : Nat) (fp s n d : Int32) : zCtr yX1_net cX1_net 4 (some .boolean) 4 2 27 [zr 1 0, zi s, zi n, zi d] (xH P t fp) (fun r w => r = some (zi (bI (slB s && (inB n (nI 1) (nI 24) && inB d (nI 1) (nI 8))))) ∧ (((slB s && (inB n (nI 1) (nI 24) && inB d (nI 1) (nI 8))) = false ∧ w = xH P t fp) ∨ ∃ j, j < 8 ∧ s = nI j ∧ (inB n (nI 1) (nI 24) && inB d (nI 1) (nI 8)) = true ∧ w = xH (zput P j (some (n, d, fun _ => 0))) t fp)) zNx := by
  refine z_start (by decide) [some (zr 1 0), some (zi s), some (zi n), some (zi d)] rfl (fun _ => Nat.le_of_ble_eq_true rfl) (fun _ => rfl) (fun X F E hno hin => ?_)
  refine z_iload_n F dX1_net_0 rfl ?_
  refine z_callS F (c_xSlot s) 1 rfl (lw_S q346 q347 q109 q348) (by decide +kernel) ⟨Nat.le_of_ble_eq_true rfl, Nat.le_of_ble_eq_true rfl⟩ ⟨by omega, by omega⟩ [0] 22 ⟨rfl, rfl, rfl, ⟨Or.inl rfl, trivial⟩⟩ (fun h => nomatch h) (Nat.le_of_ble_eq_true rfl) ⟨⟨Or.inr (by first | exact ⟨rfl, pR_B _ (by decide)⟩ | exact ⟨rfl, uR_B (by decide) (by decide)⟩), Or.inr rfl, Or.inr trivial, Or.inr trivial, Or.inr trivial, Or.inr trivial, Or.inr trivial, Or.inr trivial, Or.inr trivial, Or.inr trivial, Or.inr trivial, Or.inr trivial, Or.inr trivial, Or.inr trivial, Or.inr trivial, Or.inr trivial, Or.inr trivial, Or.inr trivial, Or.inr trivial, Or.inr trivial, Or.inr trivial, Or.inr trivial, trivial⟩, rfl, rfl, rfl, Nat.le_of_ble_eq_true rfl⟩ rfl rfl dX1_net_1 (fun r_1 w_1 hp => ?_) (fun _ _ h => h.elim)
  obtain ⟨rfl, rfl⟩ := hp
  refine z_weq (w' := [zPl _ _, zO _ [zr _ _, zr _ _, zr _ _, zr _ _, zr _ _, zi _, zi _, zr _ _, zr _ _], zH, zH, zH, zH, zH, zH, zH, zH, zH, zH, zH, zH, zH, zH, zH, zH, zH, zH, zH, zH]) rfl ?_
  refine z_seq (S' := zi _ :: _) rfl ?_
  refine z_if_eqB F (tgt := 15) dX1_net_4 (by decide) (fun c_4 => ?_) (fun c_4 => ?_)
  · refine z_iconst F (nI 0) dX1_net_15 rfl ?_
    exact z_zret F E rfl rfl dX1_net_16 (by omega) (by omega) (⟨by first | (rw [c_4, c_12, Bool.and_false]; rfl) | (rw [c_4]; rfl), Or.inl ⟨by first | (rw [c_4, c_12]; rfl) | (rw [c_4]; rfl), rfl⟩⟩)
  · have hs4 := c_4
    obtain ⟨j, hj, rfl⟩ := slB_of c_4
    refine z_iload_n F dX1_net_7 rfl ?_
    refine z_iload_n F dX1_net_8 rfl ?_
    refine z_callS F (c_can n d) 2 rfl (lw_S q352 q353 q116 q354) (by decide +kernel) ⟨Nat.le_of_ble_eq_true rfl, Nat.le_of_ble_eq_true rfl⟩ ⟨by omega, by omega⟩ [0] 22 ⟨rfl, rfl, rfl, ⟨Or.inl rfl, trivial⟩⟩ (fun h => nomatch h) (Nat.le_of_ble_eq_true rfl) ⟨⟨Or.inr (by first | exact ⟨rfl, pR_B _ (by decide)⟩ | exact ⟨rfl, uR_B (by decide) (by decide)⟩), Or.inr rfl, Or.inr trivial, Or.inr trivial, Or.inr trivial, Or.inr trivial, Or.inr trivial, Or.inr trivial, Or.inr trivial, Or.inr trivial, Or.inr trivial, Or.inr trivial, Or.inr trivial, Or.inr trivial, Or.inr trivial, Or.inr trivial, Or.inr trivial, Or.inr trivial, Or.inr trivial, Or.inr trivial, Or.inr trivial, Or.inr trivial, trivial⟩, rfl, rfl, rfl, Nat.le_of_ble_eq_true rfl⟩ rfl rfl dX1_net_9 (fun r_9 w_9 hp => ?_) (fun _ _ h => h.elim)
    obtain ⟨rfl, rfl⟩ := hp
    refine z_weq (w' := [zPl _ _, zO _ [zr _ _, zr _ _, zr _ _, zr _ _, zr _ _, zi _, zi _, zr _ _, zr _ _], zH, zH, zH, zH, zH, zH, zH, zH, zH, zH, zH, zH, zH, zH, zH, zH, zH, zH, zH, zH]) rfl ?_
    refine z_seq (S' := zi _ :: _) rfl ?_
    refine z_if_neB F (tgt := 17) dX1_net_12 (by decide) (fun c_12 => ?_) (fun c_12 => ?_)
    · refine z_aload_n F dX1_net_17 rfl ?_
      refine z_get F zC1 (f := 0) rfl (Nat.le_of_ble_eq_true rfl) q313 rfl dX1_net_18 ?_
      refine z_iload_n F dX1_net_21 rfl ?_
      refine z_new F 22 [zi 0, zi 0, zn] zC5 q151 q232 q116 (fun _ j hj => by match j, hj with | 0, _ => rfl | 1, _ => rfl | 2, _ => rfl) rfl (Nat.le_of_ble_eq_true rfl) (Nat.le_of_ble_eq_true rfl) ⟨(by first | exact pR_N _ (Nat.le_of_ble_eq_true rfl) | exact uR_N (Nat.le_of_ble_eq_true rfl) (Nat.le_of_ble_eq_true rfl)), rfl, trivial, trivial, trivial, trivial, trivial, trivial, trivial, trivial, trivial, trivial, trivial, trivial, trivial, trivial, trivial, trivial, trivial, trivial, trivial, trivial, trivial⟩ rfl rfl ⟨by omega, by omega⟩ dX1_net_22 ?_
      refine z_weq (w' := [_, _, _, _, _, _, _, _, _, _, _, _, _, _, _, _, _, _, _, _, _, _, _]) rfl ?_
      refine z_dup F dX1_net_25 rfl ?_
      refine z_iload_n F dX1_net_26 rfl ?_
      refine z_iload_n F dX1_net_27 rfl ?_
      refine z_callI F (c_netInit n d) 2 rfl (lw_meth q235) q116 q356 q234 rfl (by decide +kernel) ⟨Nat.le_of_ble_eq_true rfl, Nat.le_of_ble_eq_true rfl⟩ ⟨by omega, by omega⟩ [0, 22] 23 ⟨rfl, rfl, rfl, ⟨Or.inl rfl, Or.inr rfl, trivial⟩⟩ (fun h => nomatch h) (Nat.le_of_ble_eq_true rfl) ⟨⟨Or.inr (by first | exact ⟨rfl, pR_B _ (by decide)⟩ | exact ⟨rfl, uR_B (by decide) (by decide)⟩), Or.inr rfl, Or.inr trivial, Or.inr trivial, Or.inr trivial, Or.inr trivial, Or.inr trivial, Or.inr trivial, Or.inr trivial, Or.inr trivial, Or.inr trivial, Or.inr trivial, Or.inr trivial, Or.inr trivial, Or.inr trivial, Or.inr trivial, Or.inr trivial, Or.inr trivial, Or.inr trivial, Or.inr trivial, Or.inr trivial, Or.inr trivial, Or.inl rfl, trivial⟩, rfl, rfl, rfl, Nat.le_of_ble_eq_true rfl⟩ rfl rfl dX1_net_28 (fun r_28 w_28 hp => ?_) (fun _ _ h => h.elim)
      obtain ⟨rfl, rfl⟩ := hp
      refine z_weq (w' := [zPl _ _, zO _ [zr _ _, zr _ _, zr _ _, zr _ _, zr _ _, zi _, zi _, zr _ _, zr _ _], zH, zH, zH, zH, zH, zH, zH, zH, zH, zH, zH, zH, zH, zH, zH, zH, zH, zH, zH, zH, zO _ [zi _, zi _, zr _ _], zAi 0 24 _]) rfl ?_
      refine z_seq (S' := [_, _, _]) rfl ?_
      refine z_aastP F (by omega) rfl dX1_net_31 ?_
      refine z_weq (w' := [_, _, _, _, _, _, _, _, _, _, _, _, _, _, _, _, _, _, _, _, _, _, _, _]) rfl ?_
      refine z_unfocus F rfl j 22 23 22 hj zput_self rfl rfl (Nat.le_of_ble_eq_true rfl) (Nat.le_of_ble_eq_true rfl) (Nat.le_of_ble_eq_true rfl) (Nat.le_of_ble_eq_true rfl) [zO _ [zr _ _, zr _ _, zr _ _, zr _ _, zr _ _, zi _, zi _, zr _ _, zr _ _], zH, zH, zH, zH, zH, zH, zH, zH, zH, zH, zH, zH, zH, zH, zH, zH, zH, zH, zH, zH] rfl ⟨rfl, trivial, trivial, trivial, trivial, trivial, trivial, trivial, trivial, trivial, trivial, trivial, trivial, trivial, trivial, trivial, trivial, trivial, trivial, trivial, trivial, trivial⟩ uOK rfl rfl ?_
      refine z_weq (w' := zPl (pR (zput P j (some _))) (zput P j (some _)) :: _) (congrArg (fun z => z :: _) uPl1) ?_
      refine z_iconstB F true dX1_net_32 rfl ?_
      exact z_zret F E rfl rfl dX1_net_33 (by omega) (by omega) (⟨by rw [hs4, c_12]; rfl, Or.inr ⟨j, hj, rfl, c_12, rfl⟩⟩)
    · refine z_iconst F (nI 0) dX1_net_15 rfl ?_
      exact z_zret F E rfl rfl dX1_net_16 (by omega) (by omega) (⟨by first | (rw [c_4, c_12, Bool.and_false]; rfl) | (rw [c_4]; rfl), Or.inl ⟨by first | (rw [c_4, c_12]; rfl) | (rw [c_4]; rfl), rfl⟩⟩)
theorem c_pline (P : zPt) (t : Nat) (fp : Int32) (j n d : Nat) (f : Nat → Int32) (a b : Int32) (hj : j < 8) (h1 : 1 ≤ n) (h24 : n ≤ 24) (hd : d < 9) (hP : P j = some (nI n, nI d, f)) : zCtr yX1_line cX1_line 5 (some .boolean) 8 3 18 [zr 1 0, zi (nI j), zi a, zi b] (xH P t fp) (fun r w => ∃ a' b', a' < n ∧ b' < n ∧ a = nI a' ∧ b = nI b' ∧ r = some (zi (bI (mayJ f d a' b'))) ∧ w = xH (if mayJ f d a' b' then zput P j (some (nI n, nI d, jn f a' b')) else P) t fp) (fun E w => E = eNSE ∧ (knB n a && knB n b) = false ∧ w = xH P t fp) := by
  refine z_start (by decide) [some (zr 1 0), some (zi (nI j)), some (zi a), some (zi b), none] rfl (fun _ => Nat.le_of_ble_eq_true rfl) (fun _ => rfl) (fun X F E hno hin => ?_)
  refine z_aload_n F dX1_line_0 rfl ?_
  refine z_iload_n F dX1_line_1 rfl ?_
  refine z_callV F (c_netAt_ok P t fp j hj hP) 1 rfl (lw_V q429 q431 qs0 q109 q432) (by decide +kernel) ⟨Nat.le_of_ble_eq_true rfl, Nat.le_of_ble_eq_true rfl⟩ ⟨by omega, by omega⟩ [0, 1, 2, 3, 4, 5, 6, 7, 8, 9, 10, 11, 12, 13, 14, 15, 16, 17, 18, 19, 20, 21] 22 ⟨rfl, rfl, rfl, ⟨Or.inr (congrArg some (zrnP rfl).symm), Or.inr rfl, Or.inl rfl, Or.inl rfl, Or.inl rfl, Or.inl rfl, Or.inl rfl, Or.inl rfl, Or.inl rfl, Or.inl rfl, Or.inl rfl, Or.inl rfl, Or.inl rfl, Or.inl rfl, Or.inl rfl, Or.inl rfl, Or.inl rfl, Or.inl rfl, Or.inl rfl, Or.inl rfl, Or.inl rfl, Or.inl rfl, trivial⟩⟩ (fun _ => rfl) (Nat.le_of_ble_eq_true rfl) ⟨⟨Or.inl rfl, Or.inl rfl, Or.inr trivial, Or.inr trivial, Or.inr trivial, Or.inr trivial, Or.inr trivial, Or.inr trivial, Or.inr trivial, Or.inr trivial, Or.inr trivial, Or.inr trivial, Or.inr trivial, Or.inr trivial, Or.inr trivial, Or.inr trivial, Or.inr trivial, Or.inr trivial, Or.inr trivial, Or.inr trivial, Or.inr trivial, Or.inr trivial, trivial⟩, rfl, rfl, rfl, Nat.le_of_ble_eq_true rfl⟩ rfl zC1 rfl rfl dX1_line_2 (fun r_2 w_2 hp => ?_) (fun _ _ h => h.elim)
  obtain ⟨rfl, rfl⟩ := hp
  refine z_weq (w' := zPl (pR _) _ :: _) (congrArg (fun z => z :: _) (zrnP rfl)) ?_
  refine z_weq (w' := [zPl _ _, zO _ [zr _ _, zr _ _, zr _ _, zr _ _, zr _ _, zi _, zi _, zr _ _, zr _ _], zH, zH, zH, zH, zH, zH, zH, zH, zH, zH, zH, zH, zH, zH, zH, zH, zH, zH, zH, zH]) rfl ?_
  refine z_seq (S' := zr _ _ :: _) rfl ?_
  refine z_astore F dX1_line_5 (Nat.le_of_ble_eq_true rfl) ?_
  refine z_leq (L' := [_, _, _, _, _]) rfl ?_
  refine z_foc F j hj hP (N := 22) (M := 23) (L' := [_, _, _, _, some (zr 22 0)]) (S' := []) rfl rfl (Nat.le_of_ble_eq_true rfl) ⟨rfl, trivial, trivial, trivial, trivial, trivial, trivial, trivial, trivial, trivial, trivial, trivial, trivial, trivial, trivial, trivial, trivial, trivial, trivial, trivial, trivial, trivial⟩ ⟨Or.inl rfl, Or.inl rfl, Or.inl rfl, Or.inl rfl, Or.inr ⟨rfl, rfl⟩, trivial⟩ rfl trivial rfl ?_
  refine z_weq (w' := [zPl _ _, zO _ [zr _ _, zr _ _, zr _ _, zr _ _, zr _ _, zi _, zi _, zr _ _, zr _ _], zH, zH, zH, zH, zH, zH, zH, zH, zH, zH, zH, zH, zH, zH, zH, zH, zH, zH, zH, zH, zO _ [zi _, zi _, zr _ _], zAi 0 24 _]) rfl ?_
  refine z_aload F dX1_line_7 rfl ?_
  refine z_iload_n F dX1_line_9 rfl ?_
  refine z_callS F (c_knot n (nI d) a h1 h24) 2 rfl (lw_S q500 q501 q109 q502) (by decide +kernel) ⟨Nat.le_of_ble_eq_true rfl, Nat.le_of_ble_eq_true rfl⟩ ⟨by omega, by omega⟩ [0, 22, 23] 24 ⟨rfl, rfl, rfl, ⟨Or.inl rfl, Or.inr rfl, Or.inl rfl, trivial⟩⟩ (fun h => nomatch h) (Nat.le_of_ble_eq_true rfl) ⟨⟨Or.inr (by first | exact ⟨rfl, pR_B _ (by decide)⟩ | exact ⟨rfl, uR_B (by decide) (by decide)⟩), Or.inr rfl, Or.inr trivial, Or.inr trivial, Or.inr trivial, Or.inr trivial, Or.inr trivial, Or.inr trivial, Or.inr trivial, Or.inr trivial, Or.inr trivial, Or.inr trivial, Or.inr trivial, Or.inr trivial, Or.inr trivial, Or.inr trivial, Or.inr trivial, Or.inr trivial, Or.inr trivial, Or.inr trivial, Or.inr trivial, Or.inr trivial, Or.inl rfl, Or.inr trivial, trivial⟩, rfl, rfl, rfl, Nat.le_of_ble_eq_true rfl⟩ rfl rfl dX1_line_10 (fun r_10 w_10 hp => ?_) (fun E_ w_ hx => by obtain ⟨rfl, hb, rfl⟩ := hx; exact zx_pub F rfl E hno j 22 23 hj hP rfl rfl (Nat.le_of_ble_eq_true rfl) (Nat.le_of_ble_eq_true rfl) (Nat.le_of_ble_eq_true rfl) _ rfl ⟨rfl, trivial, trivial, trivial, trivial, trivial, trivial, trivial, trivial, trivial, trivial, trivial, trivial, trivial, trivial, trivial, trivial, trivial, trivial, trivial, trivial, trivial⟩ (Nat.le_of_ble_eq_true rfl) (by omega) (by omega) (⟨rfl, by rw [hb]; rfl, rfl⟩))
  obtain ⟨rfl, hb, rfl⟩ := hp
  obtain ⟨a', ha, rfl⟩ := knB_of h24 hb
  refine z_weq (w' := [zPl _ _, zO _ [zr _ _, zr _ _, zr _ _, zr _ _, zr _ _, zi _, zi _, zr _ _, zr _ _], zH, zH, zH, zH, zH, zH, zH, zH, zH, zH, zH, zH, zH, zH, zH, zH, zH, zH, zH, zH, zO _ [zi _, zi _, zr _ _], zAi 0 24 _]) rfl ?_
  refine z_seq (S' := []) rfl ?_
  refine z_aload F dX1_line_13 rfl ?_
  refine z_iload_n F dX1_line_15 rfl ?_
  refine z_callS F (c_knot n (nI d) b h1 h24) 2 rfl (lw_S q500 q501 q109 q502) (by decide +kernel) ⟨Nat.le_of_ble_eq_true rfl, Nat.le_of_ble_eq_true rfl⟩ ⟨by omega, by omega⟩ [0, 22, 23] 24 ⟨rfl, rfl, rfl, ⟨Or.inl rfl, Or.inr rfl, Or.inl rfl, trivial⟩⟩ (fun h => nomatch h) (Nat.le_of_ble_eq_true rfl) ⟨⟨Or.inr (by first | exact ⟨rfl, pR_B _ (by decide)⟩ | exact ⟨rfl, uR_B (by decide) (by decide)⟩), Or.inr rfl, Or.inr trivial, Or.inr trivial, Or.inr trivial, Or.inr trivial, Or.inr trivial, Or.inr trivial, Or.inr trivial, Or.inr trivial, Or.inr trivial, Or.inr trivial, Or.inr trivial, Or.inr trivial, Or.inr trivial, Or.inr trivial, Or.inr trivial, Or.inr trivial, Or.inr trivial, Or.inr trivial, Or.inr trivial, Or.inr trivial, Or.inl rfl, Or.inr trivial, trivial⟩, rfl, rfl, rfl, Nat.le_of_ble_eq_true rfl⟩ rfl rfl dX1_line_16 (fun r_16 w_16 hp => ?_) (fun E_ w_ hx => by obtain ⟨rfl, hb, rfl⟩ := hx; exact zx_pub F rfl E hno j 22 23 hj hP rfl rfl (Nat.le_of_ble_eq_true rfl) (Nat.le_of_ble_eq_true rfl) (Nat.le_of_ble_eq_true rfl) _ rfl ⟨rfl, trivial, trivial, trivial, trivial, trivial, trivial, trivial, trivial, trivial, trivial, trivial, trivial, trivial, trivial, trivial, trivial, trivial, trivial, trivial, trivial, trivial⟩ (Nat.le_of_ble_eq_true rfl) (by omega) (by omega) (⟨rfl, by rw [hb, Bool.and_false], rfl⟩))
  obtain ⟨rfl, hb, rfl⟩ := hp
  obtain ⟨b', hb', rfl⟩ := knB_of h24 hb
  refine z_weq (w' := [zPl _ _, zO _ [zr _ _, zr _ _, zr _ _, zr _ _, zr _ _, zi _, zi _, zr _ _, zr _ _], zH, zH, zH, zH, zH, zH, zH, zH, zH, zH, zH, zH, zH, zH, zH, zH, zH, zH, zH, zH, zO _ [zi _, zi _, zr _ _], zAi 0 24 _]) rfl ?_
  refine z_seq (S' := []) rfl ?_
  refine z_aload F dX1_line_19 rfl ?_
  refine z_iload_n F dX1_line_21 rfl ?_
  refine z_iload_n F dX1_line_22 rfl ?_
  refine z_callV F (c_mayJoin (nI n) d f a' b' (by omega) (by omega) hd) 2 rfl (lw_V q503 q504 q505 q116 q506) (by decide +kernel) ⟨Nat.le_of_ble_eq_true rfl, Nat.le_of_ble_eq_true rfl⟩ ⟨by omega, by omega⟩ [0, 22, 23] 24 ⟨rfl, rfl, rfl, ⟨Or.inl rfl, Or.inr rfl, Or.inr rfl, trivial⟩⟩ (fun h => nomatch h) (Nat.le_of_ble_eq_true rfl) ⟨⟨Or.inr (by first | exact ⟨rfl, pR_B _ (by decide)⟩ | exact ⟨rfl, uR_B (by decide) (by decide)⟩), Or.inr rfl, Or.inr trivial, Or.inr trivial, Or.inr trivial, Or.inr trivial, Or.inr trivial, Or.inr trivial, Or.inr trivial, Or.inr trivial, Or.inr trivial, Or.inr trivial, Or.inr trivial, Or.inr trivial, Or.inr trivial, Or.inr trivial, Or.inr trivial, Or.inr trivial, Or.inr trivial, Or.inr trivial, Or.inr trivial, Or.inr trivial, Or.inl rfl, Or.inl rfl, trivial⟩, rfl, rfl, rfl, Nat.le_of_ble_eq_true rfl⟩ rfl zC5 rfl rfl dX1_line_23 (fun r_23 w_23 hp => ?_) (fun _ _ h => h.elim)
  obtain ⟨rfl, rfl⟩ := hp
  refine z_weq (w' := [zPl _ _, zO _ [zr _ _, zr _ _, zr _ _, zr _ _, zr _ _, zi _, zi _, zr _ _, zr _ _], zH, zH, zH, zH, zH, zH, zH, zH, zH, zH, zH, zH, zH, zH, zH, zH, zH, zH, zH, zH, zO _ [zi _, zi _, zr _ _], zAi 0 24 _]) rfl ?_
  refine z_seq (S' := zi _ :: _) rfl ?_
  refine z_if_neB F (tgt := 31) dX1_line_26 (by decide) (fun c_26 => ?_) (fun c_26 => ?_)
  · refine z_aload F dX1_line_31 rfl ?_
    refine z_iload_n F dX1_line_33 rfl ?_
    refine z_iload_n F dX1_line_34 rfl ?_
    refine z_callV F (c_set (nI n) (nI d) f a' b' (by omega) (by omega)) 2 rfl (lw_V q516 q418 q419 q116 q420) (by decide +kernel) ⟨Nat.le_of_ble_eq_true rfl, Nat.le_of_ble_eq_true rfl⟩ ⟨by omega, by omega⟩ [0, 22, 23] 24 ⟨rfl, rfl, rfl, ⟨Or.inl rfl, Or.inr rfl, Or.inr rfl, trivial⟩⟩ (fun h => nomatch h) (Nat.le_of_ble_eq_true rfl) ⟨⟨Or.inr (by first | exact ⟨rfl, pR_B _ (by decide)⟩ | exact ⟨rfl, uR_B (by decide) (by decide)⟩), Or.inr rfl, Or.inr trivial, Or.inr trivial, Or.inr trivial, Or.inr trivial, Or.inr trivial, Or.inr trivial, Or.inr trivial, Or.inr trivial, Or.inr trivial, Or.inr trivial, Or.inr trivial, Or.inr trivial, Or.inr trivial, Or.inr trivial, Or.inr trivial, Or.inr trivial, Or.inr trivial, Or.inr trivial, Or.inr trivial, Or.inr trivial, Or.inl rfl, Or.inl rfl, trivial⟩, rfl, rfl, rfl, Nat.le_of_ble_eq_true rfl⟩ rfl zC5 rfl rfl dX1_line_35 (fun r_35 w_35 hp => ?_) (fun _ _ h => h.elim)
    obtain ⟨rfl, rfl⟩ := hp
    refine z_weq (w' := [zPl _ _, zO _ [zr _ _, zr _ _, zr _ _, zr _ _, zr _ _, zi _, zi _, zr _ _, zr _ _], zH, zH, zH, zH, zH, zH, zH, zH, zH, zH, zH, zH, zH, zH, zH, zH, zH, zH, zH, zH, zO _ [zi _, zi _, zr _ _], zAi 0 24 _]) rfl ?_
    refine z_seq (S' := []) rfl ?_
    refine z_loc [some _, some _, some _, some _, none] ⟨rfl, rfl, rfl, rfl, trivial⟩ ?_
    refine z_unfocus F rfl j 22 23 22 hj zput_self rfl rfl (Nat.le_of_ble_eq_true rfl) (Nat.le_of_ble_eq_true rfl) (Nat.le_of_ble_eq_true rfl) (Nat.le_of_ble_eq_true rfl) [zO _ [zr _ _, zr _ _, zr _ _, zr _ _, zr _ _, zi _, zi _, zr _ _, zr _ _], zH, zH, zH, zH, zH, zH, zH, zH, zH, zH, zH, zH, zH, zH, zH, zH, zH, zH, zH, zH] rfl ⟨rfl, trivial, trivial, trivial, trivial, trivial, trivial, trivial, trivial, trivial, trivial, trivial, trivial, trivial, trivial, trivial, trivial, trivial, trivial, trivial, trivial, trivial⟩ uOK rfl rfl ?_
    refine z_weq (w' := zPl (pR (zput P j (some _))) (zput P j (some _)) :: _) (congrArg (fun z => z :: _) uPl2) ?_
    refine z_iconstB F true dX1_line_38 rfl ?_
    exact z_zret F E rfl rfl dX1_line_39 (by omega) (by omega) (⟨a', b', ha, hb', rfl, rfl, by rw [c_26], by rw [c_26, if_pos rfl]; rfl⟩)
  · refine z_loc [some _, some _, some _, some _, none] ⟨rfl, rfl, rfl, rfl, trivial⟩ ?_
    refine z_unfocus F rfl j 22 23 22 hj zput_self rfl rfl (Nat.le_of_ble_eq_true rfl) (Nat.le_of_ble_eq_true rfl) (Nat.le_of_ble_eq_true rfl) (Nat.le_of_ble_eq_true rfl) [zO _ [zr _ _, zr _ _, zr _ _, zr _ _, zr _ _, zi _, zi _, zr _ _, zr _ _], zH, zH, zH, zH, zH, zH, zH, zH, zH, zH, zH, zH, zH, zH, zH, zH, zH, zH, zH, zH] rfl ⟨rfl, trivial, trivial, trivial, trivial, trivial, trivial, trivial, trivial, trivial, trivial, trivial, trivial, trivial, trivial, trivial, trivial, trivial, trivial, trivial, trivial, trivial⟩ uOK rfl rfl ?_
    refine z_weq (w' := zPl (pR (zput P j (some _))) (zput P j (some _)) :: _) (congrArg (fun z => z :: _) uPl2) ?_
    refine z_iconstB F false dX1_line_29 rfl ?_
    exact z_zret F E rfl rfl dX1_line_30 (by omega) (by omega) (⟨a', b', ha, hb', rfl, rfl, by rw [c_26], by rw [c_26, if_neg (by decide), zput_some hP]; rfl⟩)
theorem c_pline_no (P : zPt) (t : Nat) (fp : Int32) (s a b : Int32) (hs : ∀ j, j < 8 → s = nI j → P j = none) : zCtr yX1_line cX1_line 5 (some .boolean) 8 3 18 [zr 1 0, zi s, zi a, zi b] (xH P t fp) (fun r w => False) (fun E w => E = eNSE ∧ True ∧ w = xH P t fp) := by
  refine z_start (by decide) [some (zr 1 0), some (zi s), some (zi a), some (zi b), none] rfl (fun _ => Nat.le_of_ble_eq_true rfl) (fun _ => rfl) (fun X F E hno hin => ?_)
  refine z_aload_n F dX1_line_0 rfl ?_
  refine z_iload_n F dX1_line_1 rfl ?_
  refine z_callV F (c_netAt_no P t fp s hs) 1 rfl (lw_V q429 q431 qs0 q109 q432) (by decide +kernel) ⟨Nat.le_of_ble_eq_true rfl, Nat.le_of_ble_eq_true rfl⟩ ⟨by omega, by omega⟩ [0, 1, 2, 3, 4, 5, 6, 7, 8, 9, 10, 11, 12, 13, 14, 15, 16, 17, 18, 19, 20, 21] 22 ⟨rfl, rfl, rfl, ⟨Or.inr (congrArg some (zrnP rfl).symm), Or.inr rfl, Or.inl rfl, Or.inl rfl, Or.inl rfl, Or.inl rfl, Or.inl rfl, Or.inl rfl, Or.inl rfl, Or.inl rfl, Or.inl rfl, Or.inl rfl, Or.inl rfl, Or.inl rfl, Or.inl rfl, Or.inl rfl, Or.inl rfl, Or.inl rfl, Or.inl rfl, Or.inl rfl, Or.inl rfl, Or.inl rfl, trivial⟩⟩ (fun _ => rfl) (Nat.le_of_ble_eq_true rfl) ⟨⟨Or.inl rfl, Or.inl rfl, Or.inr trivial, Or.inr trivial, Or.inr trivial, Or.inr trivial, Or.inr trivial, Or.inr trivial, Or.inr trivial, Or.inr trivial, Or.inr trivial, Or.inr trivial, Or.inr trivial, Or.inr trivial, Or.inr trivial, Or.inr trivial, Or.inr trivial, Or.inr trivial, Or.inr trivial, Or.inr trivial, Or.inr trivial, Or.inr trivial, trivial⟩, rfl, rfl, rfl, Nat.le_of_ble_eq_true rfl⟩ rfl zC1 rfl rfl dX1_line_2 (fun r_2 w_2 hp => ?_) (fun E_ w_ hx => by obtain ⟨rfl, hb, rfl⟩ := hx; exact zx_out F E hno (by omega) (by omega) (⟨rfl, trivial, congrArg (fun z => z :: _) (zrnP rfl)⟩))
  exact hp.elim
theorem c_poff (P : zPt) (t : Nat) (fp : Int32) (j n d : Nat) (f : Nat → Int32) (a b : Int32) (hj : j < 8) (h1 : 1 ≤ n) (h24 : n ≤ 24) (hP : P j = some (nI n, nI d, f)) : zCtr yX1_off cX1_off 5 (some .boolean) 8 3 18 [zr 1 0, zi (nI j), zi a, zi b] (xH P t fp) (fun r w => ∃ a' b', a' < n ∧ b' < n ∧ a = nI a' ∧ b = nI b' ∧ r = some (zi (bI (bt (f a') b'))) ∧ w = xH (if bt (f a') b' then zput P j (some (nI n, nI d, pt f a' b')) else P) t fp) (fun E w => E = eNSE ∧ (knB n a && knB n b) = false ∧ w = xH P t fp) := by
  refine z_start (by decide) [some (zr 1 0), some (zi (nI j)), some (zi a), some (zi b), none] rfl (fun _ => Nat.le_of_ble_eq_true rfl) (fun _ => rfl) (fun X F E hno hin => ?_)
  refine z_aload_n F dX1_off_0 rfl ?_
  refine z_iload_n F dX1_off_1 rfl ?_
  refine z_callV F (c_netAt_ok P t fp j hj hP) 1 rfl (lw_V q429 q431 qs0 q109 q432) (by decide +kernel) ⟨Nat.le_of_ble_eq_true rfl, Nat.le_of_ble_eq_true rfl⟩ ⟨by omega, by omega⟩ [0, 1, 2, 3, 4, 5, 6, 7, 8, 9, 10, 11, 12, 13, 14, 15, 16, 17, 18, 19, 20, 21] 22 ⟨rfl, rfl, rfl, ⟨Or.inr (congrArg some (zrnP rfl).symm), Or.inr rfl, Or.inl rfl, Or.inl rfl, Or.inl rfl, Or.inl rfl, Or.inl rfl, Or.inl rfl, Or.inl rfl, Or.inl rfl, Or.inl rfl, Or.inl rfl, Or.inl rfl, Or.inl rfl, Or.inl rfl, Or.inl rfl, Or.inl rfl, Or.inl rfl, Or.inl rfl, Or.inl rfl, Or.inl rfl, Or.inl rfl, trivial⟩⟩ (fun _ => rfl) (Nat.le_of_ble_eq_true rfl) ⟨⟨Or.inl rfl, Or.inl rfl, Or.inr trivial, Or.inr trivial, Or.inr trivial, Or.inr trivial, Or.inr trivial, Or.inr trivial, Or.inr trivial, Or.inr trivial, Or.inr trivial, Or.inr trivial, Or.inr trivial, Or.inr trivial, Or.inr trivial, Or.inr trivial, Or.inr trivial, Or.inr trivial, Or.inr trivial, Or.inr trivial, Or.inr trivial, Or.inr trivial, trivial⟩, rfl, rfl, rfl, Nat.le_of_ble_eq_true rfl⟩ rfl zC1 rfl rfl dX1_off_2 (fun r_2 w_2 hp => ?_) (fun _ _ h => h.elim)
  obtain ⟨rfl, rfl⟩ := hp
  refine z_weq (w' := zPl (pR _) _ :: _) (congrArg (fun z => z :: _) (zrnP rfl)) ?_
  refine z_weq (w' := [zPl _ _, zO _ [zr _ _, zr _ _, zr _ _, zr _ _, zr _ _, zi _, zi _, zr _ _, zr _ _], zH, zH, zH, zH, zH, zH, zH, zH, zH, zH, zH, zH, zH, zH, zH, zH, zH, zH, zH, zH]) rfl ?_
  refine z_seq (S' := zr _ _ :: _) rfl ?_
  refine z_astore F dX1_off_5 (Nat.le_of_ble_eq_true rfl) ?_
  refine z_leq (L' := [_, _, _, _, _]) rfl ?_
  refine z_foc F j hj hP (N := 22) (M := 23) (L' := [_, _, _, _, some (zr 22 0)]) (S' := []) rfl rfl (Nat.le_of_ble_eq_true rfl) ⟨rfl, trivial, trivial, trivial, trivial, trivial, trivial, trivial, trivial, trivial, trivial, trivial, trivial, trivial, trivial, trivial, trivial, trivial, trivial, trivial, trivial, trivial⟩ ⟨Or.inl rfl, Or.inl rfl, Or.inl rfl, Or.inl rfl, Or.inr ⟨rfl, rfl⟩, trivial⟩ rfl trivial rfl ?_
  refine z_weq (w' := [zPl _ _, zO _ [zr _ _, zr _ _, zr _ _, zr _ _, zr _ _, zi _, zi _, zr _ _, zr _ _], zH, zH, zH, zH, zH, zH, zH, zH, zH, zH, zH, zH, zH, zH, zH, zH, zH, zH, zH, zH, zO _ [zi _, zi _, zr _ _], zAi 0 24 _]) rfl ?_
  refine z_aload F dX1_off_7 rfl ?_
  refine z_iload_n F dX1_off_9 rfl ?_
  refine z_callS F (c_knot n (nI d) a h1 h24) 2 rfl (lw_S q500 q501 q109 q502) (by decide +kernel) ⟨Nat.le_of_ble_eq_true rfl, Nat.le_of_ble_eq_true rfl⟩ ⟨by omega, by omega⟩ [0, 22, 23] 24 ⟨rfl, rfl, rfl, ⟨Or.inl rfl, Or.inr rfl, Or.inl rfl, trivial⟩⟩ (fun h => nomatch h) (Nat.le_of_ble_eq_true rfl) ⟨⟨Or.inr (by first | exact ⟨rfl, pR_B _ (by decide)⟩ | exact ⟨rfl, uR_B (by decide) (by decide)⟩), Or.inr rfl, Or.inr trivial, Or.inr trivial, Or.inr trivial, Or.inr trivial, Or.inr trivial, Or.inr trivial, Or.inr trivial, Or.inr trivial, Or.inr trivial, Or.inr trivial, Or.inr trivial, Or.inr trivial, Or.inr trivial, Or.inr trivial, Or.inr trivial, Or.inr trivial, Or.inr trivial, Or.inr trivial, Or.inr trivial, Or.inr trivial, Or.inl rfl, Or.inr trivial, trivial⟩, rfl, rfl, rfl, Nat.le_of_ble_eq_true rfl⟩ rfl rfl dX1_off_10 (fun r_10 w_10 hp => ?_) (fun E_ w_ hx => by obtain ⟨rfl, hb, rfl⟩ := hx; exact zx_pub F rfl E hno j 22 23 hj hP rfl rfl (Nat.le_of_ble_eq_true rfl) (Nat.le_of_ble_eq_true rfl) (Nat.le_of_ble_eq_true rfl) _ rfl ⟨rfl, trivial, trivial, trivial, trivial, trivial, trivial, trivial, trivial, trivial, trivial, trivial, trivial, trivial, trivial, trivial, trivial, trivial, trivial, trivial, trivial, trivial⟩ (Nat.le_of_ble_eq_true rfl) (by omega) (by omega) (⟨rfl, by rw [hb]; rfl, rfl⟩))
  obtain ⟨rfl, hb, rfl⟩ := hp
  obtain ⟨a', ha, rfl⟩ := knB_of h24 hb
  refine z_weq (w' := [zPl _ _, zO _ [zr _ _, zr _ _, zr _ _, zr _ _, zr _ _, zi _, zi _, zr _ _, zr _ _], zH, zH, zH, zH, zH, zH, zH, zH, zH, zH, zH, zH, zH, zH, zH, zH, zH, zH, zH, zH, zO _ [zi _, zi _, zr _ _], zAi 0 24 _]) rfl ?_
  refine z_seq (S' := []) rfl ?_
  refine z_aload F dX1_off_13 rfl ?_
  refine z_iload_n F dX1_off_15 rfl ?_
  refine z_callS F (c_knot n (nI d) b h1 h24) 2 rfl (lw_S q500 q501 q109 q502) (by decide +kernel) ⟨Nat.le_of_ble_eq_true rfl, Nat.le_of_ble_eq_true rfl⟩ ⟨by omega, by omega⟩ [0, 22, 23] 24 ⟨rfl, rfl, rfl, ⟨Or.inl rfl, Or.inr rfl, Or.inl rfl, trivial⟩⟩ (fun h => nomatch h) (Nat.le_of_ble_eq_true rfl) ⟨⟨Or.inr (by first | exact ⟨rfl, pR_B _ (by decide)⟩ | exact ⟨rfl, uR_B (by decide) (by decide)⟩), Or.inr rfl, Or.inr trivial, Or.inr trivial, Or.inr trivial, Or.inr trivial, Or.inr trivial, Or.inr trivial, Or.inr trivial, Or.inr trivial, Or.inr trivial, Or.inr trivial, Or.inr trivial, Or.inr trivial, Or.inr trivial, Or.inr trivial, Or.inr trivial, Or.inr trivial, Or.inr trivial, Or.inr trivial, Or.inr trivial, Or.inr trivial, Or.inl rfl, Or.inr trivial, trivial⟩, rfl, rfl, rfl, Nat.le_of_ble_eq_true rfl⟩ rfl rfl dX1_off_16 (fun r_16 w_16 hp => ?_) (fun E_ w_ hx => by obtain ⟨rfl, hb, rfl⟩ := hx; exact zx_pub F rfl E hno j 22 23 hj hP rfl rfl (Nat.le_of_ble_eq_true rfl) (Nat.le_of_ble_eq_true rfl) (Nat.le_of_ble_eq_true rfl) _ rfl ⟨rfl, trivial, trivial, trivial, trivial, trivial, trivial, trivial, trivial, trivial, trivial, trivial, trivial, trivial, trivial, trivial, trivial, trivial, trivial, trivial, trivial, trivial⟩ (Nat.le_of_ble_eq_true rfl) (by omega) (by omega) (⟨rfl, by rw [hb, Bool.and_false], rfl⟩))
  obtain ⟨rfl, hb, rfl⟩ := hp
  obtain ⟨b', hb', rfl⟩ := knB_of h24 hb
  refine z_weq (w' := [zPl _ _, zO _ [zr _ _, zr _ _, zr _ _, zr _ _, zr _ _, zi _, zi _, zr _ _, zr _ _], zH, zH, zH, zH, zH, zH, zH, zH, zH, zH, zH, zH, zH, zH, zH, zH, zH, zH, zH, zH, zO _ [zi _, zi _, zr _ _], zAi 0 24 _]) rfl ?_
  refine z_seq (S' := []) rfl ?_
  refine z_aload F dX1_off_19 rfl ?_
  refine z_iload_n F dX1_off_21 rfl ?_
  refine z_iload_n F dX1_off_22 rfl ?_
  refine z_callV F (c_has (nI n) (nI d) f a' b' (by omega) (by omega)) 2 rfl (lw_V q524 q508 q509 q116 q510) (by decide +kernel) ⟨Nat.le_of_ble_eq_true rfl, Nat.le_of_ble_eq_true rfl⟩ ⟨by omega, by omega⟩ [0, 22, 23] 24 ⟨rfl, rfl, rfl, ⟨Or.inl rfl, Or.inr rfl, Or.inr rfl, trivial⟩⟩ (fun h => nomatch h) (Nat.le_of_ble_eq_true rfl) ⟨⟨Or.inr (by first | exact ⟨rfl, pR_B _ (by decide)⟩ | exact ⟨rfl, uR_B (by decide) (by decide)⟩), Or.inr rfl, Or.inr trivial, Or.inr trivial, Or.inr trivial, Or.inr trivial, Or.inr trivial, Or.inr trivial, Or.inr trivial, Or.inr trivial, Or.inr trivial, Or.inr trivial, Or.inr trivial, Or.inr trivial, Or.inr trivial, Or.inr trivial, Or.inr trivial, Or.inr trivial, Or.inr trivial, Or.inr trivial, Or.inr trivial, Or.inr trivial, Or.inl rfl, Or.inl rfl, trivial⟩, rfl, rfl, rfl, Nat.le_of_ble_eq_true rfl⟩ rfl zC5 rfl rfl dX1_off_23 (fun r_23 w_23 hp => ?_) (fun _ _ h => h.elim)
  obtain ⟨rfl, rfl⟩ := hp
  refine z_weq (w' := [zPl _ _, zO _ [zr _ _, zr _ _, zr _ _, zr _ _, zr _ _, zi _, zi _, zr _ _, zr _ _], zH, zH, zH, zH, zH, zH, zH, zH, zH, zH, zH, zH, zH, zH, zH, zH, zH, zH, zH, zH, zO _ [zi _, zi _, zr _ _], zAi 0 24 _]) rfl ?_
  refine z_seq (S' := zi _ :: _) rfl ?_
  refine z_if_neB F (tgt := 31) dX1_off_26 (by decide) (fun c_26 => ?_) (fun c_26 => ?_)
  · refine z_aload F dX1_off_31 rfl ?_
    refine z_iload_n F dX1_off_33 rfl ?_
    refine z_iload_n F dX1_off_34 rfl ?_
    refine z_callV F (c_clear (nI n) (nI d) f a' b' (by omega) (by omega)) 2 rfl (lw_V q525 q526 q527 q116 q528) (by decide +kernel) ⟨Nat.le_of_ble_eq_true rfl, Nat.le_of_ble_eq_true rfl⟩ ⟨by omega, by omega⟩ [0, 22, 23] 24 ⟨rfl, rfl, rfl, ⟨Or.inl rfl, Or.inr rfl, Or.inr rfl, trivial⟩⟩ (fun h => nomatch h) (Nat.le_of_ble_eq_true rfl) ⟨⟨Or.inr (by first | exact ⟨rfl, pR_B _ (by decide)⟩ | exact ⟨rfl, uR_B (by decide) (by decide)⟩), Or.inr rfl, Or.inr trivial, Or.inr trivial, Or.inr trivial, Or.inr trivial, Or.inr trivial, Or.inr trivial, Or.inr trivial, Or.inr trivial, Or.inr trivial, Or.inr trivial, Or.inr trivial, Or.inr trivial, Or.inr trivial, Or.inr trivial, Or.inr trivial, Or.inr trivial, Or.inr trivial, Or.inr trivial, Or.inr trivial, Or.inr trivial, Or.inl rfl, Or.inl rfl, trivial⟩, rfl, rfl, rfl, Nat.le_of_ble_eq_true rfl⟩ rfl zC5 rfl rfl dX1_off_35 (fun r_35 w_35 hp => ?_) (fun _ _ h => h.elim)
    obtain ⟨rfl, rfl⟩ := hp
    refine z_weq (w' := [zPl _ _, zO _ [zr _ _, zr _ _, zr _ _, zr _ _, zr _ _, zi _, zi _, zr _ _, zr _ _], zH, zH, zH, zH, zH, zH, zH, zH, zH, zH, zH, zH, zH, zH, zH, zH, zH, zH, zH, zH, zO _ [zi _, zi _, zr _ _], zAi 0 24 _]) rfl ?_
    refine z_seq (S' := []) rfl ?_
    refine z_loc [some _, some _, some _, some _, none] ⟨rfl, rfl, rfl, rfl, trivial⟩ ?_
    refine z_unfocus F rfl j 22 23 22 hj zput_self rfl rfl (Nat.le_of_ble_eq_true rfl) (Nat.le_of_ble_eq_true rfl) (Nat.le_of_ble_eq_true rfl) (Nat.le_of_ble_eq_true rfl) [zO _ [zr _ _, zr _ _, zr _ _, zr _ _, zr _ _, zi _, zi _, zr _ _, zr _ _], zH, zH, zH, zH, zH, zH, zH, zH, zH, zH, zH, zH, zH, zH, zH, zH, zH, zH, zH, zH] rfl ⟨rfl, trivial, trivial, trivial, trivial, trivial, trivial, trivial, trivial, trivial, trivial, trivial, trivial, trivial, trivial, trivial, trivial, trivial, trivial, trivial, trivial, trivial⟩ uOK rfl rfl ?_
    refine z_weq (w' := zPl (pR (zput P j (some _))) (zput P j (some _)) :: _) (congrArg (fun z => z :: _) uPl2) ?_
    refine z_iconstB F true dX1_off_38 rfl ?_
    exact z_zret F E rfl rfl dX1_off_39 (by omega) (by omega) (⟨a', b', ha, hb', rfl, rfl, by rw [c_26], by rw [c_26, if_pos rfl]; rfl⟩)
  · refine z_loc [some _, some _, some _, some _, none] ⟨rfl, rfl, rfl, rfl, trivial⟩ ?_
    refine z_unfocus F rfl j 22 23 22 hj zput_self rfl rfl (Nat.le_of_ble_eq_true rfl) (Nat.le_of_ble_eq_true rfl) (Nat.le_of_ble_eq_true rfl) (Nat.le_of_ble_eq_true rfl) [zO _ [zr _ _, zr _ _, zr _ _, zr _ _, zr _ _, zi _, zi _, zr _ _, zr _ _], zH, zH, zH, zH, zH, zH, zH, zH, zH, zH, zH, zH, zH, zH, zH, zH, zH, zH, zH, zH] rfl ⟨rfl, trivial, trivial, trivial, trivial, trivial, trivial, trivial, trivial, trivial, trivial, trivial, trivial, trivial, trivial, trivial, trivial, trivial, trivial, trivial, trivial, trivial⟩ uOK rfl rfl ?_
    refine z_weq (w' := zPl (pR (zput P j (some _))) (zput P j (some _)) :: _) (congrArg (fun z => z :: _) uPl2) ?_
    refine z_iconstB F false dX1_off_29 rfl ?_
    exact z_zret F E rfl rfl dX1_off_30 (by omega) (by omega) (⟨a', b', ha, hb', rfl, rfl, by rw [c_26], by rw [c_26, if_neg (by decide), zput_some hP]; rfl⟩)
theorem c_pfault (P : zPt) (t : Nat) (fp : Int32) : zCtr yX1_fault cX1_fault 1 (some .int) 0 0 0 [zr 1 0] (xH P t fp) (fun r w => r = some (zi fp) ∧ w = xH P t fp) zNx := by
  refine z_start (by decide) [some (zr 1 0)] rfl (fun _ => Nat.le_of_ble_eq_true rfl) (fun _ => rfl) (fun X F E hno hin => ?_)
  refine z_aload_n F dX1_fault_0 rfl ?_
  refine z_get F zC1 (f := 6) rfl (Nat.le_of_ble_eq_true rfl) q320 rfl dX1_fault_1 ?_
  exact z_iret F E rfl dX1_fault_4 (by omega) (by omega) (⟨rfl, rfl⟩)
theorem c_ncopy (n d : Nat) (f : Nat → Int32) (hn : n ≤ 24) (hz : ∀ k, n ≤ k → k < 24 → f k = nI 0) : zCtr yX5_copy cX5_copy 3 (some (.object "WiredNets$Net")) 3 2 27 [zr 1 0] [zH, eNet 2 (nI n) (nI d), zAi 0 24 f] (fun r w => r = some (zr 3 0) ∧ ∃ g, w = [zH, eNet 2 (nI n) (nI d), zAi 0 24 f, eNet 4 (nI n) (nI d), zAi 0 24 g] ∧ ∀ k, k < 24 → g k = f k) zNx := by
  refine z_start (by decide) [some (zr 1 0), none, none] rfl (fun _ => Nat.le_of_ble_eq_true rfl) (fun _ => rfl) (fun X F E hno hin => ?_)
  have loop : ∀ (m k : Nat) (g : Nat → Int32), n - k < m → k ≤ n → (∀ i, i < k → g i = f i) → (∀ i, k ≤ i → g i = 0) → Z X [some (zr 1 0), some (zr 3 0), some (zi (nI k))] [] [zH, eNet 2 (nI n) (nI d), zAi 0 24 f, eNet 4 (nI n) (nI d), zAi 0 24 g] 2 27 18 := by
    intro m
    induction m with
    | zero => intro k g hm; omega
    | succ m ih =>
      intro k g hm hk hg h0
      refine z_iload_n F dX5_copy_18 rfl ?_
      refine z_aload_n F dX5_copy_19 rfl ?_
      refine z_get F zC5 (f := 0) rfl (Nat.le_of_ble_eq_true rfl) q237 rfl dX5_copy_20 ?_
      refine z_icmp_geN F (by omega) (by omega) (tgt := 44) dX5_copy_23 (by decide) (fun c_23 => ?_) (fun c_23 => ?_)
      · refine z_aload_n F dX5_copy_44 rfl ?_
        exact z_aret F E rfl (Or.inl ⟨_, rfl⟩) dX5_copy_45 (by omega) (by omega) (⟨rfl, g, rfl, fun i hi => by
  by_cases q : i < k
  · exact hg i q
  · rw [h0 i (by omega), hz i (by omega) hi]; rfl⟩)
      · refine z_aload_n F dX5_copy_26 rfl ?_
        refine z_get F zC5 (f := 2) rfl (Nat.le_of_ble_eq_true rfl) q249 rfl dX5_copy_27 ?_
        refine z_iload_n F dX5_copy_30 rfl ?_
        refine z_aload_n F dX5_copy_31 rfl ?_
        refine z_get F zC5 (f := 2) rfl (Nat.le_of_ble_eq_true rfl) q249 rfl dX5_copy_32 ?_
        refine z_iload_n F dX5_copy_35 rfl ?_
        refine z_ialdN F rfl (Nat.le_of_ble_eq_true rfl) (by omega) rfl dX5_copy_36 ?_
        refine z_iastN F rfl (Nat.le_of_ble_eq_true rfl) (by omega) dX5_copy_37 ?_
        refine z_weq (w' := [_, _, _, _, _]) rfl ?_
        refine z_iincN F 1 dX5_copy_38 rfl rfl ?_
        refine z_leq (L' := [_, _, _]) rfl ?_
        refine z_goto F (tgt := 18) dX5_copy_41 (by decide) ?_
        refine ih (k + 1) _ (by omega) (by omega) (fun i hi => ?_) (fun i hi => ?_)
        · rw [upd_at]
          split
          · subst_vars; rfl
          · exact hg i (by omega)
        · rw [upd_at, if_neg (by omega)]; exact h0 i (by omega)
  refine z_new F 3 [zi 0, zi 0, zn] zC5 q756 q232 q116 (fun _ j hj => by match j, hj with | 0, _ => rfl | 1, _ => rfl | 2, _ => rfl) rfl (Nat.le_of_ble_eq_true rfl) (Nat.le_of_ble_eq_true rfl) ⟨trivial, rfl, trivial, trivial⟩ rfl rfl ⟨by omega, by omega⟩ dX5_copy_0 ?_
  refine z_weq (w' := [_, _, _, _]) rfl ?_
  refine z_dup F dX5_copy_3 rfl ?_
  refine z_aload_n F dX5_copy_4 rfl ?_
  refine z_get F zC5 (f := 0) rfl (Nat.le_of_ble_eq_true rfl) q237 rfl dX5_copy_5 ?_
  refine z_aload_n F dX5_copy_8 rfl ?_
  refine z_get F zC5 (f := 1) rfl (Nat.le_of_ble_eq_true rfl) q247 rfl dX5_copy_9 ?_
  refine z_callI F (c_netInit (nI n) (nI d)) 2 rfl (lw_meth q235) q116 q757 q234 rfl (by decide +kernel) ⟨Nat.le_of_ble_eq_true rfl, Nat.le_of_ble_eq_true rfl⟩ ⟨by omega, by omega⟩ [0, 3] 4 ⟨rfl, rfl, rfl, ⟨Or.inl rfl, Or.inr rfl, trivial⟩⟩ (fun h => nomatch h) (Nat.le_of_ble_eq_true rfl) ⟨⟨Or.inr trivial, Or.inr rfl, Or.inr trivial, Or.inl rfl, trivial⟩, rfl, rfl, rfl, Nat.le_of_ble_eq_true rfl⟩ rfl rfl dX5_copy_12 (fun r_12 w_12 hp => ?_) (fun _ _ h => h.elim)
  obtain ⟨rfl, rfl⟩ := hp
  refine z_weq (w' := [zH, zO _ [zi _, zi _, zr _ _], zAi 0 24 _, zO _ [zi _, zi _, zr _ _], zAi 0 24 _]) rfl ?_
  refine z_seq (S' := [_]) rfl ?_
  refine z_astore_n F dX5_copy_15 (Nat.le_of_ble_eq_true rfl) ?_
  refine z_leq (L' := [_, _, _]) rfl ?_
  refine z_iconst F (nI 0) dX5_copy_16 rfl ?_
  refine z_istore_n F dX5_copy_17 (Nat.le_of_ble_eq_true rfl) ?_
  refine z_leq (L' := [_, _, _]) rfl ?_
  exact loop _ 0 _ (Nat.lt_succ_self _) (by omega) (fun i hi => by omega) (fun i _ => rfl)
theorem c_pcopy (P : zPt) (t : Nat) (fp : Int32) (j n d : Nat) (f : Nat → Int32) (s : Int32) (hj : j < 8) (h24 : n ≤ 24) (hz : ∀ k, n ≤ k → k < 24 → f k = nI 0) (hP : P j = some (nI n, nI d, f)) : zCtr yX1_copy cX1_copy 4 (some .boolean) 8 3 33 [zr 1 0, zi (nI j), zi s] (xH P t fp) (fun r w => r = some (zi (bI (slB s))) ∧ ((slB s = false ∧ w = xH P t fp) ∨ ∃ i g, i < 8 ∧ s = nI i ∧ (∀ k, k < 24 → g k = f k) ∧ w = xH (zput P i (some (nI n, nI d, g))) t fp)) zNx := by
  refine z_start (by decide) [some (zr 1 0), some (zi (nI j)), some (zi s), none] rfl (fun _ => Nat.le_of_ble_eq_true rfl) (fun _ => rfl) (fun X F E hno hin => ?_)
  refine z_aload_n F dX1_copy_0 rfl ?_
  refine z_iload_n F dX1_copy_1 rfl ?_
  refine z_callV F (c_netAt_ok P t fp j hj hP) 1 rfl (lw_V q429 q431 qs0 q109 q432) (by decide +kernel) ⟨Nat.le_of_ble_eq_true rfl, Nat.le_of_ble_eq_true rfl⟩ ⟨by omega, by omega⟩ [0, 1, 2, 3, 4, 5, 6, 7, 8, 9, 10, 11, 12, 13, 14, 15, 16, 17, 18, 19, 20, 21] 22 ⟨rfl, rfl, rfl, ⟨Or.inr (congrArg some (zrnP rfl).symm), Or.inr rfl, Or.inl rfl, Or.inl rfl, Or.inl rfl, Or.inl rfl, Or.inl rfl, Or.inl rfl, Or.inl rfl, Or.inl rfl, Or.inl rfl, Or.inl rfl, Or.inl rfl, Or.inl rfl, Or.inl rfl, Or.inl rfl, Or.inl rfl, Or.inl rfl, Or.inl rfl, Or.inl rfl, Or.inl rfl, Or.inl rfl, trivial⟩⟩ (fun _ => rfl) (Nat.le_of_ble_eq_true rfl) ⟨⟨Or.inl rfl, Or.inl rfl, Or.inr trivial, Or.inr trivial, Or.inr trivial, Or.inr trivial, Or.inr trivial, Or.inr trivial, Or.inr trivial, Or.inr trivial, Or.inr trivial, Or.inr trivial, Or.inr trivial, Or.inr trivial, Or.inr trivial, Or.inr trivial, Or.inr trivial, Or.inr trivial, Or.inr trivial, Or.inr trivial, Or.inr trivial, Or.inr trivial, trivial⟩, rfl, rfl, rfl, Nat.le_of_ble_eq_true rfl⟩ rfl zC1 rfl rfl dX1_copy_2 (fun r_2 w_2 hp => ?_) (fun _ _ h => h.elim)
  obtain ⟨rfl, rfl⟩ := hp
  refine z_weq (w' := zPl (pR _) _ :: _) (congrArg (fun z => z :: _) (zrnP rfl)) ?_
  refine z_weq (w' := [zPl _ _, zO _ [zr _ _, zr _ _, zr _ _, zr _ _, zr _ _, zi _, zi _, zr _ _, zr _ _], zH, zH, zH, zH, zH, zH, zH, zH, zH, zH, zH, zH, zH, zH, zH, zH, zH, zH, zH, zH]) rfl ?_
  refine z_seq (S' := zr _ _ :: _) rfl ?_
  refine z_astore_n F dX1_copy_5 (Nat.le_of_ble_eq_true rfl) ?_
  refine z_leq (L' := [_, _, _, _]) rfl ?_
  refine z_iload_n F dX1_copy_6 rfl ?_
  refine z_callS F (c_xSlot s) 1 rfl (lw_S q346 q347 q109 q348) (by decide +kernel) ⟨Nat.le_of_ble_eq_true rfl, Nat.le_of_ble_eq_true rfl⟩ ⟨by omega, by omega⟩ [0] 22 ⟨rfl, rfl, rfl, ⟨Or.inl rfl, trivial⟩⟩ (fun h => nomatch h) (Nat.le_of_ble_eq_true rfl) ⟨⟨Or.inr (by first | exact ⟨rfl, pR_B _ (by decide)⟩ | exact ⟨rfl, uR_B (by decide) (by decide)⟩), Or.inr rfl, Or.inr trivial, Or.inr trivial, Or.inr trivial, Or.inr trivial, Or.inr trivial, Or.inr trivial, Or.inr trivial, Or.inr trivial, Or.inr trivial, Or.inr trivial, Or.inr trivial, Or.inr trivial, Or.inr trivial, Or.inr trivial, Or.inr trivial, Or.inr trivial, Or.inr trivial, Or.inr trivial, Or.inr trivial, Or.inr trivial, trivial⟩, rfl, rfl, rfl, Nat.le_of_ble_eq_true rfl⟩ rfl rfl dX1_copy_7 (fun r_7 w_7 hp => ?_) (fun _ _ h => h.elim)
  obtain ⟨rfl, rfl⟩ := hp
  refine z_weq (w' := [zPl _ _, zO _ [zr _ _, zr _ _, zr _ _, zr _ _, zr _ _, zi _, zi _, zr _ _, zr _ _], zH, zH, zH, zH, zH, zH, zH, zH, zH, zH, zH, zH, zH, zH, zH, zH, zH, zH, zH, zH]) rfl ?_
  refine z_seq (S' := zi _ :: _) rfl ?_
  refine z_if_neB F (tgt := 15) dX1_copy_10 (by decide) (fun c_10 => ?_) (fun c_10 => ?_)
  · have hs4 := c_10
    obtain ⟨i, hi, rfl⟩ := slB_of c_10
    refine z_foc F j hj hP (N := 22) (M := 23) (L' := [_, _, _, some (zr 22 0)]) (S' := []) rfl rfl (Nat.le_of_ble_eq_true rfl) ⟨rfl, trivial, trivial, trivial, trivial, trivial, trivial, trivial, trivial, trivial, trivial, trivial, trivial, trivial, trivial, trivial, trivial, trivial, trivial, trivial, trivial, trivial⟩ ⟨Or.inl rfl, Or.inl rfl, Or.inl rfl, Or.inr ⟨rfl, rfl⟩, trivial⟩ rfl trivial rfl ?_
    refine z_weq (w' := [zPl _ _, zO _ [zr _ _, zr _ _, zr _ _, zr _ _, zr _ _, zi _, zi _, zr _ _, zr _ _], zH, zH, zH, zH, zH, zH, zH, zH, zH, zH, zH, zH, zH, zH, zH, zH, zH, zH, zH, zH, zO _ [zi _, zi _, zr _ _], zAi 0 24 _]) rfl ?_
    refine z_aload_n F dX1_copy_15 rfl ?_
    refine z_get F zC1 (f := 0) rfl (Nat.le_of_ble_eq_true rfl) q313 rfl dX1_copy_16 ?_
    refine z_iload_n F dX1_copy_19 rfl ?_
    refine z_aload_n F dX1_copy_20 rfl ?_
    refine z_callV F (c_ncopy n d f h24 hz) 0 rfl (lw_V q752 q753 q754 q116 q755) (by decide +kernel) ⟨Nat.le_of_ble_eq_true rfl, Nat.le_of_ble_eq_true rfl⟩ ⟨by omega, by omega⟩ [0, 22, 23] 24 ⟨rfl, rfl, rfl, ⟨Or.inl rfl, Or.inr rfl, Or.inr rfl, trivial⟩⟩ (fun h => nomatch h) (Nat.le_of_ble_eq_true rfl) ⟨⟨Or.inr (by first | exact ⟨rfl, pR_B _ (by decide)⟩ | exact ⟨rfl, uR_B (by decide) (by decide)⟩), Or.inr rfl, Or.inr trivial, Or.inr trivial, Or.inr trivial, Or.inr trivial, Or.inr trivial, Or.inr trivial, Or.inr trivial, Or.inr trivial, Or.inr trivial, Or.inr trivial, Or.inr trivial, Or.inr trivial, Or.inr trivial, Or.inr trivial, Or.inr trivial, Or.inr trivial, Or.inr trivial, Or.inr trivial, Or.inr trivial, Or.inr trivial, Or.inl rfl, Or.inl rfl, trivial⟩, rfl, rfl, rfl, Nat.le_of_ble_eq_true rfl⟩ rfl zC5 rfl rfl dX1_copy_21 (fun r_21 w_21 hp => ?_) (fun _ _ h => h.elim)
    obtain ⟨rfl, g, rfl, hg⟩ := hp
    refine z_weq (w' := [zPl _ _, zO _ [zr _ _, zr _ _, zr _ _, zr _ _, zr _ _, zi _, zi _, zr _ _, zr _ _], zH, zH, zH, zH, zH, zH, zH, zH, zH, zH, zH, zH, zH, zH, zH, zH, zH, zH, zH, zH, zO _ [zi _, zi _, zr _ _], zAi 0 24 _, zO _ [zi _, zi _, zr _ _], zAi 0 24 _]) rfl ?_
    refine z_seq (S' := zr _ _ :: _) rfl ?_
    refine z_unfocusH F rfl j 22 23 hj zput_self rfl rfl (Nat.le_of_ble_eq_true rfl) (Nat.le_of_ble_eq_true rfl) [zO _ [zr _ _, zr _ _, zr _ _, zr _ _, zr _ _, zi _, zi _, zr _ _, zr _ _], zH, zH, zH, zH, zH, zH, zH, zH, zH, zH, zH, zH, zH, zH, zH, zH, zH, zH, zH, zH, zH, zH, zO _ [zi _, zi _, zr _ _], zAi 0 24 _] rfl ⟨Nat.le_of_ble_eq_true rfl, Nat.le_of_ble_eq_true rfl⟩ ⟨rfl, trivial, trivial, trivial, trivial, trivial, trivial, trivial, trivial, trivial, trivial, trivial, trivial, trivial, trivial, trivial, trivial, trivial, trivial, trivial, trivial, trivial, trivial, rfl, trivial, trivial⟩ uOV rfl rfl ?_
    refine z_weq (w' := zPl (pR P) P :: _) (congrArg (fun z => z :: _) (uPl3 hP)) ?_
    refine z_aastP F (by omega) rfl dX1_copy_24 ?_
    refine z_weq (w' := [_, _, _, _, _, _, _, _, _, _, _, _, _, _, _, _, _, _, _, _, _, _, _, _, _, _]) rfl ?_
    refine z_loc [some _, some _, some _, none] ⟨rfl, rfl, rfl, trivial⟩ ?_
    refine z_unfocus F rfl i 24 25 22 hi zput_self rfl rfl (Nat.le_of_ble_eq_true rfl) (Nat.le_of_ble_eq_true rfl) (Nat.le_of_ble_eq_true rfl) (Nat.le_of_ble_eq_true rfl) [zO _ [zr _ _, zr _ _, zr _ _, zr _ _, zr _ _, zi _, zi _, zr _ _, zr _ _], zH, zH, zH, zH, zH, zH, zH, zH, zH, zH, zH, zH, zH, zH, zH, zH, zH, zH, zH, zH] rfl ⟨rfl, trivial, trivial, trivial, trivial, trivial, trivial, trivial, trivial, trivial, trivial, trivial, trivial, trivial, trivial, trivial, trivial, trivial, trivial, trivial, trivial, trivial⟩ uOK rfl rfl ?_
    refine z_weq (w' := zPl (pR (zput P i (some _))) (zput P i (some _)) :: _) (congrArg (fun z => z :: _) uPl1) ?_
    refine z_iconstB F true dX1_copy_25 rfl ?_
    exact z_zret F E rfl rfl dX1_copy_26 (by omega) (by omega) (⟨by rw [hs4], Or.inr ⟨i, g, hi, rfl, hg, rfl⟩⟩)
  · refine z_iconst F (nI 0) dX1_copy_13 rfl ?_
    exact z_zret F E rfl rfl dX1_copy_14 (by omega) (by omega) (⟨by rw [c_10]; rfl, Or.inl ⟨c_10, rfl⟩⟩)
end C45
