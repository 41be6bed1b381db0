/-! glued: where it can't be, and the reference -/
section C9a
theorem c_pglued_ok (P : zPt) (t : Nat) (fp0 : Int32) (j x y kd nx ny d1 d2 : Nat) (fp fq : Nat → Int32) (hx : x < 8) (hy : y < 8) (h1 : nok nx d1 fp) (h2 : nok ny d2 fq) (hPx : P x = some (nI nx, nI d1, fp)) (hPy : P y = some (nI ny, nI d2, fq)) (hj : j < 8) (hkd : kd < 2) (hN : nx * ny ≤ 24) (hd : d1 + d2 ≤ 8) : zCtr yX1_glued cX1_glued 13 (some .boolean) 8 10 80 [zr 1 0, zi (nI j), zi (nI kd), zi (nI x), zi (nI y)] (xH P t fp0) (fun r w => r = some (zi (bI true)) ∧ w = xH (zput P j (some (nI (nx * ny), nI (d1 + d2), cgk kd nx fp fq (nx * ny)))) t fp0) zNx := by
  by_cases e : y = x
  · subst e
    rw [hPx] at hPy
    simp only [Option.some.injEq, Prod.mk.injEq] at hPy
    obtain ⟨e1, e2, rfl⟩ := hPy
    have q1 := h1.n24
    have q2 := h2.n24
    have q3 := h1.d8
    have q4 := h2.d8
    obtain rfl : nx = ny := (nI_eq (by omega) (by omega)).mp e1
    obtain rfl : d1 = d2 := (nI_eq (by omega) (by omega)).mp e2
    exact c_pgluedB P t fp0 j y kd nx d1 fp hx h1 hPx hj hkd hN hd
  · exact c_pgluedA P t fp0 j x y kd nx ny d1 d2 fp fq hx hy e h1 h2 hPx hPy hj hkd hN hd
theorem c_pglued_no (P : zPt) (t : Nat) (fp0 : Int32) (x y nx ny d1 d2 : Nat) (fp fq : Nat → Int32) (hx : x < 8) (hy : y < 8) (h1 : nok nx d1 fp) (h2 : nok ny d2 fq) (hPx : P x = some (nI nx, nI d1, fp)) (hPy : P y = some (nI ny, nI d2, fq)) (s k : Int32) (h : glB s k nx ny d1 d2 = false) : zCtr yX1_glued cX1_glued 13 (some .boolean) 8 10 80 [zr 1 0, zi s, zi k, zi (nI x), zi (nI y)] (xH P t fp0) (fun r w => r = some (zi (bI false)) ∧ w = xH P t fp0) zNx := by
  by_cases e : y = x
  · subst e
    rw [hPx] at hPy
    simp only [Option.some.injEq, Prod.mk.injEq] at hPy
    obtain ⟨e1, e2, rfl⟩ := hPy
    have q1 := h1.n24
    have q2 := h2.n24
    have q3 := h1.d8
    have q4 := h2.d8
    obtain rfl : nx = ny := (nI_eq (by omega) (by omega)).mp e1
    obtain rfl : d1 = d2 := (nI_eq (by omega) (by omega)).mp e2
    exact c_pgluedB_no P t fp0 y nx d1 fp hx h1 hPx s k h
  · exact c_pgluedA_no P t fp0 x y nx ny d1 d2 fp fq hx hy e h1 h2 hPx hPy s k h
theorem c_pglued_bad1 (P : zPt) (t : Nat) (fp0 : Int32) (s k x y : Int32) (hs : ∀ j, j < 8 → x = nI j → P j = none) : zCtr yX1_glued cX1_glued 13 (some .boolean) 8 10 80 [zr 1 0, zi s, zi k, zi x, zi y] (xH P t fp0) (fun r w => False) (fun E w => E = eNSE ∧ True ∧ w = xH P t fp0) := by
  refine z_start (by decide) [some (zr 1 0), some (zi s), some (zi k), some (zi x), some (zi y), none, none, none, none, none, none, none, none] rfl (fun _ => Nat.le_of_ble_eq_true rfl) (fun _ => rfl) (fun X F E hno hin => ?_)
  refine z_aload_n F dX1_glued_0 rfl ?_
  refine z_iload_n F dX1_glued_1 rfl ?_
  refine z_callV F (c_netAt_no P t fp0 x hs) 1 rfl (lw_V q429 q431 qs0 q109 q432) (by decide +kernel) ⟨Nat.le_of_ble_eq_true rfl, Nat.le_of_ble_eq_true rfl⟩ ⟨by omega, by omega⟩ [0, 1, 2, 3, 4, 5, 6, 7, 8, 9, 10, 11, 12, 13, 14, 15, 16, 17, 18, 19, 20, 21] 22 ⟨rfl, rfl, rfl, ⟨Or.inr (congrArg some (zrnP rfl).symm), Or.inr rfl, Or.inl rfl, Or.inl rfl, Or.inl rfl, Or.inl rfl, Or.inl rfl, Or.inl rfl, Or.inl rfl, Or.inl rfl, Or.inl rfl, Or.inl rfl, Or.inl rfl, Or.inl rfl, Or.inl rfl, Or.inl rfl, Or.inl rfl, Or.inl rfl, Or.inl rfl, Or.inl rfl, Or.inl rfl, Or.inl rfl, trivial⟩⟩ (fun _ => rfl) (Nat.le_of_ble_eq_true rfl) ⟨⟨Or.inl rfl, Or.inl rfl, Or.inr trivial, Or.inr trivial, Or.inr trivial, Or.inr trivial, Or.inr trivial, Or.inr trivial, Or.inr trivial, Or.inr trivial, Or.inr trivial, Or.inr trivial, Or.inr trivial, Or.inr trivial, Or.inr trivial, Or.inr trivial, Or.inr trivial, Or.inr trivial, Or.inr trivial, Or.inr trivial, Or.inr trivial, Or.inr trivial, trivial⟩, rfl, rfl, rfl, Nat.le_of_ble_eq_true rfl⟩ rfl zC1 rfl rfl dX1_glued_2 (fun r_2 w_2 hp => ?_) (fun E_ w_ hx => by obtain ⟨rfl, hb, rfl⟩ := hx; exact zx_out F E hno (by omega) (by omega) (⟨rfl, trivial, congrArg (fun z => z :: _) (zrnP rfl)⟩))
  exact hp.elim
theorem c_pglued_bad2 (P : zPt) (t : Nat) (fp0 : Int32) (s k y : Int32) (x : Nat) {v : Int32 × Int32 × (Nat → Int32)} (hx : x < 8) (hPx : P x = some v) (hs : ∀ j, j < 8 → y = nI j → P j = none) : zCtr yX1_glued cX1_glued 13 (some .boolean) 8 10 80 [zr 1 0, zi s, zi k, zi (nI x), zi y] (xH P t fp0) (fun r w => False) (fun E w => E = eNSE ∧ True ∧ w = xH P t fp0) := by
  refine z_start (by decide) [some (zr 1 0), some (zi s), some (zi k), some (zi (nI x)), some (zi y), none, none, none, none, none, none, none, none] rfl (fun _ => Nat.le_of_ble_eq_true rfl) (fun _ => rfl) (fun X F E hno hin => ?_)
  refine z_aload_n F dX1_glued_0 rfl ?_
  refine z_iload_n F dX1_glued_1 rfl ?_
  refine z_callV F (c_netAt_ok P t fp0 x hx hPx) 1 rfl (lw_V q429 q431 qs0 q109 q432) (by decide +kernel) ⟨Nat.le_of_ble_eq_true rfl, Nat.le_of_ble_eq_true rfl⟩ ⟨by omega, by omega⟩ [0, 1, 2, 3, 4, 5, 6, 7, 8, 9, 10, 11, 12, 13, 14, 15, 16, 17, 18, 19, 20, 21] 22 ⟨rfl, rfl, rfl, ⟨Or.inr (congrArg some (zrnP rfl).symm), Or.inr rfl, Or.inl rfl, Or.inl rfl, Or.inl rfl, Or.inl rfl, Or.inl rfl, Or.inl rfl, Or.inl rfl, Or.inl rfl, Or.inl rfl, Or.inl rfl, Or.inl rfl, Or.inl rfl, Or.inl rfl, Or.inl rfl, Or.inl rfl, Or.inl rfl, Or.inl rfl, Or.inl rfl, Or.inl rfl, Or.inl rfl, trivial⟩⟩ (fun _ => rfl) (Nat.le_of_ble_eq_true rfl) ⟨⟨Or.inl rfl, Or.inl rfl, Or.inr trivial, Or.inr trivial, Or.inr trivial, Or.inr trivial, Or.inr trivial, Or.inr trivial, Or.inr trivial, Or.inr trivial, Or.inr trivial, Or.inr trivial, Or.inr trivial, Or.inr trivial, Or.inr trivial, Or.inr trivial, Or.inr trivial, Or.inr trivial, Or.inr trivial, Or.inr trivial, Or.inr trivial, Or.inr trivial, trivial⟩, rfl, rfl, rfl, Nat.le_of_ble_eq_true rfl⟩ rfl zC1 rfl rfl dX1_glued_2 (fun r_2 w_2 hp => ?_) (fun _ _ h => h.elim)
  obtain ⟨rfl, rfl⟩ := hp
  refine z_weq (w' := zPl (pR _) _ :: _) (congrArg (fun z => z :: _) (zrnP rfl)) ?_
  refine z_weq (w' := [zPl _ _, zO _ [zr _ _, zr _ _, zr _ _, zr _ _, zr _ _, zi _, zi _, zr _ _, zr _ _], zH, zH, zH, zH, zH, zH, zH, zH, zH, zH, zH, zH, zH, zH, zH, zH, zH, zH, zH, zH]) rfl ?_
  refine z_seq (S' := zr _ _ :: _) rfl ?_
  refine z_astore F dX1_glued_5 (Nat.le_of_ble_eq_true rfl) ?_
  refine z_leq (L' := [_, _, _, _, _, _, _, _, _, _, _, _, _]) rfl ?_
  refine z_loc [some (zr 1 0), some (zi s), some (zi k), some (zi (nI x)), some (zi y), none, none, none, none, none, none, none, none] ⟨rfl, rfl, rfl, rfl, rfl, trivial⟩ ?_
  refine z_aload_n F dX1_glued_7 rfl ?_
  refine z_iload F dX1_glued_8 rfl ?_
  refine z_callV F (c_netAt_no P t fp0 y hs) 1 rfl (lw_V q429 q431 qs0 q109 q432) (by decide +kernel) ⟨Nat.le_of_ble_eq_true rfl, Nat.le_of_ble_eq_true rfl⟩ ⟨by omega, by omega⟩ [0, 1, 2, 3, 4, 5, 6, 7, 8, 9, 10, 11, 12, 13, 14, 15, 16, 17, 18, 19, 20, 21] 22 ⟨rfl, rfl, rfl, ⟨Or.inr (congrArg some (zrnP rfl).symm), Or.inr rfl, Or.inl rfl, Or.inl rfl, Or.inl rfl, Or.inl rfl, Or.inl rfl, Or.inl rfl, Or.inl rfl, Or.inl rfl, Or.inl rfl, Or.inl rfl, Or.inl rfl, Or.inl rfl, Or.inl rfl, Or.inl rfl, Or.inl rfl, Or.inl rfl, Or.inl rfl, Or.inl rfl, Or.inl rfl, Or.inl rfl, trivial⟩⟩ (fun _ => rfl) (Nat.le_of_ble_eq_true rfl) ⟨⟨Or.inl rfl, Or.inl rfl, Or.inr trivial, Or.inr trivial, Or.inr trivial, Or.inr trivial, Or.inr trivial, Or.inr trivial, Or.inr trivial, Or.inr trivial, Or.inr trivial, Or.inr trivial, Or.inr trivial, Or.inr trivial, Or.inr trivial, Or.inr trivial, Or.inr trivial, Or.inr trivial, Or.inr trivial, Or.inr trivial, Or.inr trivial, Or.inr trivial, trivial⟩, rfl, rfl, rfl, Nat.le_of_ble_eq_true rfl⟩ rfl zC1 rfl rfl dX1_glued_10 (fun r_10 w_10 hp => ?_) (fun E_ w_ hx => by obtain ⟨rfl, hb, rfl⟩ := hx; exact zx_out F E hno (by omega) (by omega) (⟨rfl, trivial, congrArg (fun z => z :: _) (zrnP rfl)⟩))
  exact hp.elim
theorem c_mlies_ok (F0 : Nat → Int32) (G : Nat → Int64) (A : Nat → Nat → Int32) (B : Nat → Nat → Int64) (j n : Nat) (hj : j < 8) (hn : 0 < n) (hn2 : n ≤ 24) (h0 : F0 0 = nI 0) (hA : A 1 j = nI n) : zCtr yX6_lies cX6_lies 2 (some .boolean) 1 0 0 [zr 1 0, zi (nI j)] [zH, zG F0 G A B] (fun r w => r = some (zi (bI true)) ∧ w = [zH, zG F0 G A B]) zNx := by
  refine z_start (by decide) [some (zr 1 0), some (zi (nI j))] rfl (fun _ => Nat.le_of_ble_eq_true rfl) (fun _ => rfl) (fun X F E hno hin => ?_)
  refine z_aload_n F dX6_lies_0 rfl ?_
  refine z_iload_n F dX6_lies_1 rfl ?_
  refine z_callS F (c_isSlot (nI j)) 1 rfl (lw_S q1714 q1715 q117 q1716) (by decide +kernel) ⟨Nat.le_of_ble_eq_true rfl, Nat.le_of_ble_eq_true rfl⟩ ⟨by omega, by omega⟩ [0] 2 ⟨rfl, rfl, rfl, ⟨Or.inl rfl, trivial⟩⟩ (fun h => nomatch h) (Nat.le_of_ble_eq_true rfl) ⟨⟨Or.inr trivial, Or.inr trivial, trivial⟩, rfl, rfl, rfl, Nat.le_of_ble_eq_true rfl⟩ rfl rfl dX6_lies_2 (fun r_2 w_2 hp => ?_) (fun _ _ h => h.elim)
  obtain ⟨rfl, rfl⟩ := hp
  refine z_weq (w' := [zH, zG _ _ _ _]) rfl ?_
  refine z_seq (S' := zi _ :: _) rfl ?_
  refine z_if_eqB F (tgt := 21) dX6_lies_5 (by decide) (fun c_5 => ?_) (fun c_5 => ?_)
  · rw [slB_n hj] at c_5; cases c_5
  · refine z_aload_n F dX6_lies_8 rfl ?_
    refine z_ma F rfl 1 rfl (Nat.le_of_ble_eq_true rfl) rfl q1481 dX6_lies_9 ?_
    refine z_iload_n F dX6_lies_12 rfl ?_
    refine z_ialdGN F rfl rfl (Nat.le_of_ble_eq_true rfl) (by omega) rfl dX6_lies_13 ?_
    refine z_ieq (hA) ?_
    refine z_if_leN F (by omega) (tgt := 21) dX6_lies_14 (by decide) (fun c_14 => ?_) (fun c_14 => ?_)
    · exact absurd c_14 (by omega)
    · refine z_iconstB F true dX6_lies_17 rfl ?_
      refine z_goto F (tgt := 22) dX6_lies_18 (by decide) ?_
      refine z_iconst F (nI 1) dX6_lies_22 rfl ?_
      refine z_callV F (c_right F0 _ _ _ true 1 h0 (by omega) (by omega)) 2 rfl (lw_V q1736 q1738 qs43 q117 q1739) (by decide +kernel) ⟨Nat.le_of_ble_eq_true rfl, Nat.le_of_ble_eq_true rfl⟩ ⟨by omega, by omega⟩ [0, 1] 2 ⟨rfl, rfl, rfl, ⟨Or.inl rfl, Or.inr rfl, trivial⟩⟩ (fun h => nomatch h) (Nat.le_of_ble_eq_true rfl) ⟨⟨Or.inr trivial, Or.inl rfl, trivial⟩, rfl, rfl, rfl, Nat.le_of_ble_eq_true rfl⟩ rfl zC6 (zat_G0 rfl) rfl dX6_lies_23 (fun r_23 w_23 hp => ?_) (fun _ _ h => h.elim)
      obtain ⟨rfl, rfl⟩ := hp
      refine z_weq (w' := [zH, zG _ _ _ _]) rfl ?_
      refine z_seq (S' := zi _ :: _) rfl ?_
      exact z_zret F E rfl (bI_nar _) dX6_lies_26 (by omega) (by omega) (⟨rfl, rfl⟩)
theorem c_mlies_no (F0 : Nat → Int32) (G : Nat → Int64) (A : Nat → Nat → Int32) (B : Nat → Nat → Int64) (s : Int32) (h0 : F0 0 = nI 0) (hs : ∀ j, j < 8 → s = nI j → A 1 j = nI 0) : zCtr yX6_lies cX6_lies 2 (some .boolean) 1 0 0 [zr 1 0, zi s] [zH, zG F0 G A B] (fun r w => r = some (zi (bI false)) ∧ w = [zH, zG (upd F0 0 (nI 1)) G A B]) zNx := by
  refine z_start (by decide) [some (zr 1 0), some (zi s)] rfl (fun _ => Nat.le_of_ble_eq_true rfl) (fun _ => rfl) (fun X F E hno hin => ?_)
  have J : Z X [some (zr 1 0), some (zi s)] [zi (bI false), zr 1 0] [zH, zG F0 G A B] 0 0 22 := by
    refine z_iconst F (nI 1) dX6_lies_22 rfl ?_
    refine z_callV F (c_right F0 _ _ _ false 1 h0 (by omega) (by omega)) 2 rfl (lw_V q1736 q1738 qs43 q117 q1739) (by decide +kernel) ⟨Nat.le_of_ble_eq_true rfl, Nat.le_of_ble_eq_true rfl⟩ ⟨by omega, by omega⟩ [0, 1] 2 ⟨rfl, rfl, rfl, ⟨Or.inl rfl, Or.inr rfl, trivial⟩⟩ (fun h => nomatch h) (Nat.le_of_ble_eq_true rfl) ⟨⟨Or.inr trivial, Or.inl rfl, trivial⟩, rfl, rfl, rfl, Nat.le_of_ble_eq_true rfl⟩ rfl zC6 (zat_G0 rfl) rfl dX6_lies_23 (fun r_23 w_23 hp => ?_) (fun _ _ h => h.elim)
    obtain ⟨rfl, rfl⟩ := hp
    refine z_weq (w' := [zH, zG _ _ _ _]) rfl ?_
    refine z_seq (S' := zi _ :: _) rfl ?_
    exact z_zret F E rfl (bI_nar _) dX6_lies_26 (by omega) (by omega) (⟨rfl, rfl⟩)
  rcases hsl : slB s with _ | _
  ·
    refine z_aload_n F dX6_lies_0 rfl ?_
    refine z_iload_n F dX6_lies_1 rfl ?_
    refine z_callS F (c_isSlot s) 1 rfl (lw_S q1714 q1715 q117 q1716) (by decide +kernel) ⟨Nat.le_of_ble_eq_true rfl, Nat.le_of_ble_eq_true rfl⟩ ⟨by omega, by omega⟩ [0] 2 ⟨rfl, rfl, rfl, ⟨Or.inl rfl, trivial⟩⟩ (fun h => nomatch h) (Nat.le_of_ble_eq_true rfl) ⟨⟨Or.inr trivial, Or.inr trivial, trivial⟩, rfl, rfl, rfl, Nat.le_of_ble_eq_true rfl⟩ rfl rfl dX6_lies_2 (fun r_2 w_2 hp => ?_) (fun _ _ h => h.elim)
    obtain ⟨rfl, rfl⟩ := hp
    refine z_weq (w' := [zH, zG _ _ _ _]) rfl ?_
    refine z_seq (S' := zi _ :: _) rfl ?_
    refine z_if_eqB F (tgt := 21) dX6_lies_5 (by decide) (fun c_5 => ?_) (fun c_5 => ?_)
    · refine z_iconstB F false dX6_lies_21 rfl ?_
      exact J
    · rw [hsl] at c_5; cases c_5
  obtain ⟨j, hj, rfl⟩ := slB_of hsl
  refine z_aload_n F dX6_lies_0 rfl ?_
  refine z_iload_n F dX6_lies_1 rfl ?_
  refine z_callS F (c_isSlot (nI j)) 1 rfl (lw_S q1714 q1715 q117 q1716) (by decide +kernel) ⟨Nat.le_of_ble_eq_true rfl, Nat.le_of_ble_eq_true rfl⟩ ⟨by omega, by omega⟩ [0] 2 ⟨rfl, rfl, rfl, ⟨Or.inl rfl, trivial⟩⟩ (fun h => nomatch h) (Nat.le_of_ble_eq_true rfl) ⟨⟨Or.inr trivial, Or.inr trivial, trivial⟩, rfl, rfl, rfl, Nat.le_of_ble_eq_true rfl⟩ rfl rfl dX6_lies_2 (fun r_2 w_2 hp => ?_) (fun _ _ h => h.elim)
  obtain ⟨rfl, rfl⟩ := hp
  refine z_weq (w' := [zH, zG _ _ _ _]) rfl ?_
  refine z_seq (S' := zi _ :: _) rfl ?_
  refine z_if_eqB F (tgt := 21) dX6_lies_5 (by decide) (fun c_5 => ?_) (fun c_5 => ?_)
  · rw [hsl] at c_5; cases c_5
  · refine z_aload_n F dX6_lies_8 rfl ?_
    refine z_ma F rfl 1 rfl (Nat.le_of_ble_eq_true rfl) rfl q1481 dX6_lies_9 ?_
    refine z_iload_n F dX6_lies_12 rfl ?_
    refine z_ialdGN F rfl rfl (Nat.le_of_ble_eq_true rfl) (by omega) rfl dX6_lies_13 ?_
    refine z_ieq (hs j hj rfl) ?_
    refine z_if_leN F (by omega) (tgt := 21) dX6_lies_14 (by decide) (fun c_14 => ?_) (fun c_14 => ?_)
    · refine z_iconstB F false dX6_lies_21 rfl ?_
      exact J
    · exact absurd c_14 (by omega)
theorem c_mareJ (F0 : Nat → Int32) (G : Nat → Int64) (A : Nat → Nat → Int32) (B : Nat → Nat → Int64) (x p r : Nat) (f : Nat → Int32) (hx : x < 8) (hp : p < 24) (hr : r < 32) (hA : A 3 (24 * x + p) = f p) : zCtr yX6_areJoined cX6_areJoined 4 (some .boolean) 0 0 0 [zr 1 0, zi (nI x), zi (nI p), zi (nI r)] [zH, zG F0 G A B] (fun r' w => r' = some (zi (bI (bt (f p) r))) ∧ w = [zH, zG F0 G A B]) zNx := by
  refine z_start (by decide) [some (zr 1 0), some (zi (nI x)), some (zi (nI p)), some (zi (nI r))] rfl (fun _ => Nat.le_of_ble_eq_true rfl) (fun _ => rfl) (fun X F E hno hin => ?_)
  refine z_aload_n F dX6_areJoined_0 rfl ?_
  refine z_ma F rfl 3 rfl (Nat.le_of_ble_eq_true rfl) rfl q1483 dX6_areJoined_1 ?_
  refine z_bipush F (nI 24) dX6_areJoined_4 rfl ?_
  refine z_iload_n F dX6_areJoined_6 rfl ?_
  refine z_imulN F dX6_areJoined_7 ?_
  refine z_iload_n F dX6_areJoined_8 rfl ?_
  refine z_iaddN F dX6_areJoined_9 ?_
  refine z_ialdGN F rfl rfl (Nat.le_of_ble_eq_true rfl) (by omega) rfl dX6_areJoined_10 ?_
  refine z_iload_n F dX6_areJoined_11 rfl ?_
  refine z_ishr F dX6_areJoined_12 ?_
  refine z_iconst F (nI 1) dX6_areJoined_13 rfl ?_
  refine z_iandB F (by omega) dX6_areJoined_14 ?_
  refine z_iconst F (nI 1) dX6_areJoined_15 rfl ?_
  refine z_icmp_neB F (tgt := 23) dX6_areJoined_16 (by decide) (fun c_16 => ?_) (fun c_16 => ?_)
  · refine z_iconstB F false dX6_areJoined_23 rfl ?_
    exact z_zret F E rfl (bI_nar _) dX6_areJoined_24 (by omega) (by omega) (⟨by rw [← hA, c_16], rfl⟩)
  · refine z_iconstB F true dX6_areJoined_19 rfl ?_
    refine z_goto F (tgt := 24) dX6_areJoined_20 (by decide) ?_
    exact z_zret F E rfl (bI_nar _) dX6_areJoined_24 (by omega) (by omega) (⟨by rw [← hA, c_16], rfl⟩)
theorem c_mglued_bad1 (F0 : Nat → Int32) (G : Nat → Int64) (A : Nat → Nat → Int32) (B : Nat → Nat → Int64) (s k x y : Int32) (hs : ∀ j, j < 8 → x = nI j → A 1 j = nI 0) : zCtr yX6_glued cX6_glued 11 (some .boolean) 2 0 0 [zr 1 0, zi s, zi k, zi x, zi y] [zH, zG F0 G A B] (fun r w => r = some (zi (bI false)) ∧ w = [zH, zG (upd F0 0 (nI 1)) G A B]) zNx := by
  refine z_start (by decide) [some (zr 1 0), some (zi s), some (zi k), some (zi x), some (zi y), none, none, none, none, none, none] rfl (fun _ => Nat.le_of_ble_eq_true rfl) (fun _ => rfl) (fun X F E hno hin => ?_)
  refine z_aload_n F dX6_glued_0 rfl ?_
  refine z_iconst F (nI 0) dX6_glued_1 rfl ?_
  refine z_pmi F rfl 0 rfl (Nat.le_of_ble_eq_true rfl) rfl q1480 rfl rfl rfl dX6_glued_2 ?_
  refine z_weq (w' := [_, _]) rfl ?_
  refine z_aload_n F dX6_glued_5 rfl ?_
  refine z_iload_n F dX6_glued_6 rfl ?_
  refine z_callV F (c_mlies_no (upd F0 0 (nI 0)) _ _ _ x rfl hs) 1 rfl (lw_V q1852 q1854 qs60 q117 q1855) (by decide +kernel) ⟨Nat.le_of_ble_eq_true rfl, Nat.le_of_ble_eq_true rfl⟩ ⟨by omega, by omega⟩ [0, 1] 2 ⟨rfl, rfl, rfl, ⟨Or.inl rfl, Or.inr rfl, trivial⟩⟩ (fun h => nomatch h) (Nat.le_of_ble_eq_true rfl) ⟨⟨Or.inr trivial, Or.inl rfl, trivial⟩, rfl, rfl, rfl, Nat.le_of_ble_eq_true rfl⟩ rfl zC6 (zat_G0 rfl) rfl dX6_glued_7 (fun r_7 w_7 hp => ?_) (fun _ _ h => h.elim)
  obtain ⟨rfl, rfl⟩ := hp
  refine z_weq (w' := [zH, zG _ _ _ _]) rfl ?_
  refine z_seq (S' := zi _ :: _) rfl ?_
  refine z_if_eqB F (tgt := 22) dX6_glued_10 (by decide) (fun c_10 => ?_) (fun c_10 => ?_)
  · refine z_iconstB F false dX6_glued_22 rfl ?_
    exact z_zret F E rfl rfl dX6_glued_23 (by omega) (by omega) (⟨rfl, by rw [upd_upd]⟩)
  · cases c_10
theorem c_mglued_bad2 (F0 : Nat → Int32) (G : Nat → Int64) (A : Nat → Nat → Int32) (B : Nat → Nat → Int64) (s k y : Int32) (x n : Nat) (hx : x < 8) (hn : 0 < n) (hn2 : n ≤ 24) (hA : A 1 x = nI n) (hs : ∀ j, j < 8 → y = nI j → A 1 j = nI 0) : zCtr yX6_glued cX6_glued 11 (some .boolean) 2 0 0 [zr 1 0, zi s, zi k, zi (nI x), zi y] [zH, zG F0 G A B] (fun r w => r = some (zi (bI false)) ∧ w = [zH, zG (upd F0 0 (nI 1)) G A B]) zNx := by
  refine z_start (by decide) [some (zr 1 0), some (zi s), some (zi k), some (zi (nI x)), some (zi y), none, none, none, none, none, none] rfl (fun _ => Nat.le_of_ble_eq_true rfl) (fun _ => rfl) (fun X F E hno hin => ?_)
  refine z_aload_n F dX6_glued_0 rfl ?_
  refine z_iconst F (nI 0) dX6_glued_1 rfl ?_
  refine z_pmi F rfl 0 rfl (Nat.le_of_ble_eq_true rfl) rfl q1480 rfl rfl rfl dX6_glued_2 ?_
  refine z_weq (w' := [_, _]) rfl ?_
  refine z_aload_n F dX6_glued_5 rfl ?_
  refine z_iload_n F dX6_glued_6 rfl ?_
  refine z_callV F (c_mlies_ok (upd F0 0 (nI 0)) _ _ _ x n hx hn hn2 rfl hA) 1 rfl (lw_V q1852 q1854 qs60 q117 q1855) (by decide +kernel) ⟨Nat.le_of_ble_eq_true rfl, Nat.le_of_ble_eq_true rfl⟩ ⟨by omega, by omega⟩ [0, 1] 2 ⟨rfl, rfl, rfl, ⟨Or.inl rfl, Or.inr rfl, trivial⟩⟩ (fun h => nomatch h) (Nat.le_of_ble_eq_true rfl) ⟨⟨Or.inr trivial, Or.inl rfl, trivial⟩, rfl, rfl, rfl, Nat.le_of_ble_eq_true rfl⟩ rfl zC6 (zat_G0 rfl) rfl dX6_glued_7 (fun r_7 w_7 hp => ?_) (fun _ _ h => h.elim)
  obtain ⟨rfl, rfl⟩ := hp
  refine z_weq (w' := [zH, zG _ _ _ _]) rfl ?_
  refine z_seq (S' := zi _ :: _) rfl ?_
  refine z_if_eqB F (tgt := 22) dX6_glued_10 (by decide) (fun c_10 => ?_) (fun c_10 => ?_)
  · cases c_10
  · refine z_aload_n F dX6_glued_13 rfl ?_
    refine z_iload F dX6_glued_14 rfl ?_
    refine z_callV F (c_mlies_no (upd F0 0 (nI 0)) _ _ _ y rfl hs) 1 rfl (lw_V q1852 q1854 qs60 q117 q1855) (by decide +kernel) ⟨Nat.le_of_ble_eq_true rfl, Nat.le_of_ble_eq_true rfl⟩ ⟨by omega, by omega⟩ [0, 1] 2 ⟨rfl, rfl, rfl, ⟨Or.inl rfl, Or.inr rfl, trivial⟩⟩ (fun h => nomatch h) (Nat.le_of_ble_eq_true rfl) ⟨⟨Or.inr trivial, Or.inl rfl, trivial⟩, rfl, rfl, rfl, Nat.le_of_ble_eq_true rfl⟩ rfl zC6 (zat_G0 rfl) rfl dX6_glued_16 (fun r_16 w_16 hp => ?_) (fun _ _ h => h.elim)
    obtain ⟨rfl, rfl⟩ := hp
    refine z_weq (w' := [zH, zG _ _ _ _]) rfl ?_
    refine z_seq (S' := zi _ :: _) rfl ?_
    refine z_if_neB F (tgt := 24) dX6_glued_19 (by decide) (fun c_19 => ?_) (fun c_19 => ?_)
    · cases c_19
    · refine z_iconstB F false dX6_glued_22 rfl ?_
      exact z_zret F E rfl rfl dX6_glued_23 (by omega) (by omega) (⟨rfl, by rw [upd_upd]⟩)
theorem c_mglued_no (F0 : Nat → Int32) (G : Nat → Int64) (A : Nat → Nat → Int32) (B : Nat → Nat → Int64) (s k : Int32) (x y nx ny d1 d2 : Nat) (fp fq : Nat → Int32) (hx : x < 8) (hy : y < 8) (h1 : nok nx d1 fp) (h2 : nok ny d2 fq) (s1 : Slt A x nx (nI d1) fp) (s2 : Slt A y ny (nI d2) fq) (h : glB s k nx ny d1 d2 = false) : zCtr yX6_glued cX6_glued 11 (some .boolean) 2 0 0 [zr 1 0, zi s, zi k, zi (nI x), zi (nI y)] [zH, zG F0 G A B] (fun r w => r = some (zi (bI false)) ∧ w = [zH, zG (upd F0 0 (nI 0)) G A B]) zNx := by
  refine z_start (by decide) [some (zr 1 0), some (zi s), some (zi k), some (zi (nI x)), some (zi (nI y)), none, none, none, none, none, none] rfl (fun _ => Nat.le_of_ble_eq_true rfl) (fun _ => rfl) (fun X F E hno hin => ?_)
  have p1 := h1.n1
  have p2 := h2.n1
  have p3 := h1.n24
  have p4 := h2.n24
  have p5 := h1.d1
  have p6 := h1.d8
  have p7 := h2.d8
  have hN : nx * ny ≤ 24 * 24 := Nat.mul_le_mul p3 p4
  have hN0 : 1 ≤ nx * ny := Nat.mul_pos p1 p2
  refine z_aload_n F dX6_glued_0 rfl ?_
  refine z_iconst F (nI 0) dX6_glued_1 rfl ?_
  refine z_pmi F rfl 0 rfl (Nat.le_of_ble_eq_true rfl) rfl q1480 rfl rfl rfl dX6_glued_2 ?_
  refine z_weq (w' := [_, _]) rfl ?_
  refine z_aload_n F dX6_glued_5 rfl ?_
  refine z_iload_n F dX6_glued_6 rfl ?_
  refine z_callV F (c_mlies_ok (upd F0 0 (nI 0)) _ _ _ x nx hx p1 p3 rfl s1.1) 1 rfl (lw_V q1852 q1854 qs60 q117 q1855) (by decide +kernel) ⟨Nat.le_of_ble_eq_true rfl, Nat.le_of_ble_eq_true rfl⟩ ⟨by omega, by omega⟩ [0, 1] 2 ⟨rfl, rfl, rfl, ⟨Or.inl rfl, Or.inr rfl, trivial⟩⟩ (fun h => nomatch h) (Nat.le_of_ble_eq_true rfl) ⟨⟨Or.inr trivial, Or.inl rfl, trivial⟩, rfl, rfl, rfl, Nat.le_of_ble_eq_true rfl⟩ rfl zC6 (zat_G0 rfl) rfl dX6_glued_7 (fun r_7 w_7 hp => ?_) (fun _ _ h => h.elim)
  obtain ⟨rfl, rfl⟩ := hp
  refine z_weq (w' := [zH, zG _ _ _ _]) rfl ?_
  refine z_seq (S' := zi _ :: _) rfl ?_
  refine z_if_eqB F (tgt := 22) dX6_glued_10 (by decide) (fun c_10 => ?_) (fun c_10 => ?_)
  · cases c_10
  · refine z_aload_n F dX6_glued_13 rfl ?_
    refine z_iload F dX6_glued_14 rfl ?_
    refine z_callV F (c_mlies_ok (upd F0 0 (nI 0)) _ _ _ y ny hy p2 p4 rfl s2.1) 1 rfl (lw_V q1852 q1854 qs60 q117 q1855) (by decide +kernel) ⟨Nat.le_of_ble_eq_true rfl, Nat.le_of_ble_eq_true rfl⟩ ⟨by omega, by omega⟩ [0, 1] 2 ⟨rfl, rfl, rfl, ⟨Or.inl rfl, Or.inr rfl, trivial⟩⟩ (fun h => nomatch h) (Nat.le_of_ble_eq_true rfl) ⟨⟨Or.inr trivial, Or.inl rfl, trivial⟩, rfl, rfl, rfl, Nat.le_of_ble_eq_true rfl⟩ rfl zC6 (zat_G0 rfl) rfl dX6_glued_16 (fun r_16 w_16 hp => ?_) (fun _ _ h => h.elim)
    obtain ⟨rfl, rfl⟩ := hp
    refine z_weq (w' := [zH, zG _ _ _ _]) rfl ?_
    refine z_seq (S' := zi _ :: _) rfl ?_
    refine z_if_neB F (tgt := 24) dX6_glued_19 (by decide) (fun c_19 => ?_) (fun c_19 => ?_)
    · refine z_aload_n F dX6_glued_24 rfl ?_
      refine z_ma F rfl 1 rfl (Nat.le_of_ble_eq_true rfl) rfl q1481 dX6_glued_25 ?_
      refine z_iload_n F dX6_glued_28 rfl ?_
      refine z_ialdGN F rfl rfl (Nat.le_of_ble_eq_true rfl) (by omega) rfl dX6_glued_29 ?_
      refine z_ieq (s1.1) ?_
      refine z_istore F dX6_glued_30 (Nat.le_of_ble_eq_true rfl) ?_
      refine z_leq (L' := [_, _, _, _, _, _, _, _, _, _, _]) rfl ?_
      refine z_aload_n F dX6_glued_32 rfl ?_
      refine z_ma F rfl 1 rfl (Nat.le_of_ble_eq_true rfl) rfl q1481 dX6_glued_33 ?_
      refine z_iload F dX6_glued_36 rfl ?_
      refine z_ialdGN F rfl rfl (Nat.le_of_ble_eq_true rfl) (by omega) rfl dX6_glued_38 ?_
      refine z_ieq (s2.1) ?_
      refine z_istore F dX6_glued_39 (Nat.le_of_ble_eq_true rfl) ?_
      refine z_leq (L' := [_, _, _, _, _, _, _, _, _, _, _]) rfl ?_
      refine z_aload_n F dX6_glued_41 rfl ?_
      refine z_ma F rfl 2 rfl (Nat.le_of_ble_eq_true rfl) rfl q1482 dX6_glued_42 ?_
      refine z_iload_n F dX6_glued_45 rfl ?_
      refine z_ialdGN F rfl rfl (Nat.le_of_ble_eq_true rfl) (by omega) rfl dX6_glued_46 ?_
      refine z_ieq (s1.2.1) ?_
      refine z_aload_n F dX6_glued_47 rfl ?_
      refine z_ma F rfl 2 rfl (Nat.le_of_ble_eq_true rfl) rfl q1482 dX6_glued_48 ?_
      refine z_iload F dX6_glued_51 rfl ?_
      refine z_ialdGN F rfl rfl (Nat.le_of_ble_eq_true rfl) (by omega) rfl dX6_glued_53 ?_
      refine z_ieq (s2.2.1) ?_
      refine z_iaddN F dX6_glued_54 ?_
      refine z_istore F dX6_glued_55 (Nat.le_of_ble_eq_true rfl) ?_
      refine z_leq (L' := [_, _, _, _, _, _, _, _, _, _, _]) rfl ?_
      refine z_iload_n F dX6_glued_57 rfl ?_
      refine z_callS F (c_isSlot s) 1 rfl (lw_S q1714 q1715 q117 q1716) (by decide +kernel) ⟨Nat.le_of_ble_eq_true rfl, Nat.le_of_ble_eq_true rfl⟩ ⟨by omega, by omega⟩ [0] 2 ⟨rfl, rfl, rfl, ⟨Or.inl rfl, trivial⟩⟩ (fun h => nomatch h) (Nat.le_of_ble_eq_true rfl) ⟨⟨Or.inr trivial, Or.inr trivial, trivial⟩, rfl, rfl, rfl, Nat.le_of_ble_eq_true rfl⟩ rfl rfl dX6_glued_58 (fun r_58 w_58 hp => ?_) (fun _ _ h => h.elim)
      obtain ⟨rfl, rfl⟩ := hp
      refine z_weq (w' := [zH, zG _ _ _ _]) rfl ?_
      refine z_seq (S' := zi _ :: _) rfl ?_
      refine z_if_eqB F (tgt := 90) dX6_glued_61 (by decide) (fun c_61 => ?_) (fun c_61 => ?_)
      · refine z_iconstB F false dX6_glued_90 rfl ?_
        exact z_zret F E rfl rfl dX6_glued_91 (by omega) (by omega) (⟨rfl, rfl⟩)
      · refine z_iload_n F dX6_glued_64 rfl ?_
        refine z_if_eq F (tgt := 73) dX6_glued_65 (by decide) (fun c_65 => ?_) (fun c_65 => ?_)
        · refine z_iload F dX6_glued_73 rfl ?_
          refine z_iload F dX6_glued_75 rfl ?_
          refine z_imulN F dX6_glued_77 ?_
          refine z_bipush F (nI 24) dX6_glued_78 rfl ?_
          refine z_icmp_gtN F (by omega) (by omega) (tgt := 90) dX6_glued_80 (by decide) (fun c_80 => ?_) (fun c_80 => ?_)
          · refine z_iconstB F false dX6_glued_90 rfl ?_
            exact z_zret F E rfl rfl dX6_glued_91 (by omega) (by omega) (⟨rfl, rfl⟩)
          · refine z_iload F dX6_glued_83 rfl ?_
            refine z_bipush F (nI 8) dX6_glued_85 rfl ?_
            refine z_icmp_leN F (by omega) (by omega) (tgt := 92) dX6_glued_87 (by decide) (fun c_87 => ?_) (fun c_87 => ?_)
            · unfold glB at h
              rw [c_61, show inB k (nI 0) (nI 1) = true by first | (rw [c_65]; decide) | (rw [c_70]; decide), inB_nn hN0 (by omega) (by omega), inB_nn (by omega) (by omega) (by omega)] at h; cases h
            · refine z_iconstB F false dX6_glued_90 rfl ?_
              exact z_zret F E rfl rfl dX6_glued_91 (by omega) (by omega) (⟨rfl, rfl⟩)
        · refine z_iload_n F dX6_glued_68 rfl ?_
          refine z_iconst F (nI 1) dX6_glued_69 rfl ?_
          refine z_icmp_ne F (tgt := 90) dX6_glued_70 (by decide) (fun c_70 => ?_) (fun c_70 => ?_)
          · refine z_iconstB F false dX6_glued_90 rfl ?_
            exact z_zret F E rfl rfl dX6_glued_91 (by omega) (by omega) (⟨rfl, rfl⟩)
          · refine z_iload F dX6_glued_73 rfl ?_
            refine z_iload F dX6_glued_75 rfl ?_
            refine z_imulN F dX6_glued_77 ?_
            refine z_bipush F (nI 24) dX6_glued_78 rfl ?_
            refine z_icmp_gtN F (by omega) (by omega) (tgt := 90) dX6_glued_80 (by decide) (fun c_80 => ?_) (fun c_80 => ?_)
            · refine z_iconstB F false dX6_glued_90 rfl ?_
              exact z_zret F E rfl rfl dX6_glued_91 (by omega) (by omega) (⟨rfl, rfl⟩)
            · refine z_iload F dX6_glued_83 rfl ?_
              refine z_bipush F (nI 8) dX6_glued_85 rfl ?_
              refine z_icmp_leN F (by omega) (by omega) (tgt := 92) dX6_glued_87 (by decide) (fun c_87 => ?_) (fun c_87 => ?_)
              · unfold glB at h
                rw [c_61, show inB k (nI 0) (nI 1) = true by first | (rw [c_65]; decide) | (rw [c_70]; decide), inB_nn hN0 (by omega) (by omega), inB_nn (by omega) (by omega) (by omega)] at h; cases h
              · refine z_iconstB F false dX6_glued_90 rfl ?_
                exact z_zret F E rfl rfl dX6_glued_91 (by omega) (by omega) (⟨rfl, rfl⟩)
    · cases c_19
theorem c_mglued_ok (F0 : Nat → Int32) (G : Nat → Int64) (A : Nat → Nat → Int32) (B : Nat → Nat → Int64) (j kd x y nx ny d1 d2 : Nat) (fp fq : Nat → Int32) (hx : x < 8) (hy : y < 8) (h1 : nok nx d1 fp) (h2 : nok ny d2 fq) (s1 : Slt A x nx (nI d1) fp) (s2 : Slt A y ny (nI d2) fq) (hj : j < 8) (hkd : kd < 2) (hN : nx * ny ≤ 24) (hd : d1 + d2 ≤ 8) : zCtr yX6_glued cX6_glued 11 (some .boolean) 2 0 0 [zr 1 0, zi (nI j), zi (nI kd), zi (nI x), zi (nI y)] [zH, zG F0 G A B] (fun r w => r = some (zi (bI true)) ∧ ∃ F' A', w = [zH, zG F' G A' B] ∧ F' 0 = nI 0 ∧ frm [0, 4, 5] F0 F' ∧ frm [1, 2, 3, 6] A A' ∧ Slt A' j (nx * ny) (nI (d1 + d2)) (cgk kd nx fp fq (nx * ny)) ∧ ∀ i, i < 8 → i ≠ j → SltEq A A' i) zNx := by
  refine z_start (by decide) [some (zr 1 0), some (zi (nI j)), some (zi (nI kd)), some (zi (nI x)), some (zi (nI y)), none, none, none, none, none, none] rfl (fun _ => Nat.le_of_ble_eq_true rfl) (fun _ => rfl) (fun X F E hno hin => ?_)
  have p1 := h1.n1
  have p2 := h2.n1
  have p3 := h1.n24
  have p4 := h2.n24
  have p5 := h1.d1
  have rest : ∀ (F1 : Nat → Int32) (A1 : Nat → Nat → Int32), frm [0, 4, 5] F0 F1 → F1 0 = nI 0 → F1 4 = nI (nx * ny) → F1 5 = nI (d1 + d2) → frm [6] A A1 → (∀ k, k < 24 → A1 6 k = nI 0) → Z X [some (zr 1 0), some (zi (nI j)), some (zi (nI kd)), some (zi (nI x)), some (zi (nI y)), some (zi (nI nx)), some (zi (nI ny)), some (zi (nI (d1 + d2))), none, none, none] [] [zH, zG F1 G A1 B] 0 0 103 := by
    intro F1 A0 f0 f1 f4 f5 hA0 hz
    have l2 : ∀ (q p : Nat) (f : Nat → Int32), q < ny → p < nx → (∀ A1, frm [6] A A1 → (∀ k, k < 24 → A1 6 k = mg2 nx fq q p f ny k) → Z X [some (zr 1 0), some (zi (nI j)), some (zi (nI kd)), some (zi (nI x)), some (zi (nI y)), some (zi (nI nx)), some (zi (nI ny)), some (zi (nI (d1 + d2))), some (zi (nI q)), some (zi (nI (p + 1))), none] [] [zH, zG F1 G A1 B] 0 0 116) →
        ∀ (m r : Nat) (A1 : Nat → Nat → Int32), ny - r < m → r ≤ ny → frm [6] A A1 → (∀ k, k < 24 → A1 6 k = mg2 nx fq q p f r k) → Z X [some (zr 1 0), some (zi (nI j)), some (zi (nI kd)), some (zi (nI x)), some (zi (nI y)), some (zi (nI nx)), some (zi (nI ny)), some (zi (nI (d1 + d2))), some (zi (nI q)), some (zi (nI p)), some (zi (nI r))] [] [zH, zG F1 G A1 B] 0 0 183 := by
      intro q p f hq hp0 kk m
      induction m with
      | zero => intro r A1 hm; omega
      | succ m ih =>
        intro r A1 hm hr hA hR
        have u1 := lin_lt hN hp0 hq
        have u2 : r < ny → p + nx * r < 24 := fun z => lin_lt hN hp0 z
        refine z_iload F dX6_glued_183 rfl ?_
        refine z_iload F dX6_glued_185 rfl ?_
        refine z_icmp_geN F (by omega) (by omega) (tgt := 229) dX6_glued_187 (by decide) (fun c_187 => ?_) (fun c_187 => ?_)
        · refine z_iincN F 1 dX6_glued_229 rfl rfl ?_
          refine z_leq (L' := [_, _, _, _, _, _, _, _, _, _, _]) rfl ?_
          refine z_goto F (tgt := 116) dX6_glued_232 (by decide) ?_
          rw [show r = ny by omega] at hR
          refine z_loc _ ?_ (kk A1 hA hR)
          exact ⟨rfl, rfl, rfl, rfl, rfl, rfl, rfl, rfl, rfl, rfl, trivial⟩
        · have u2 := u2 (by omega)
          refine z_aload_n F dX6_glued_190 rfl ?_
          refine z_iload F dX6_glued_191 rfl ?_
          refine z_iload F dX6_glued_193 rfl ?_
          refine z_iload F dX6_glued_195 rfl ?_
          refine z_callV F (c_mareJ F1 _ A1 _ y q r fq hy (by omega) (by omega) (by rw [hA.at 3 rfl]; exact s2.2.2 q (by omega))) 3 rfl (lw_V q1856 q1858 qs61 q117 q1859) (by decide +kernel) ⟨Nat.le_of_ble_eq_true rfl, Nat.le_of_ble_eq_true rfl⟩ ⟨by omega, by omega⟩ [0, 1] 2 ⟨rfl, rfl, rfl, ⟨Or.inl rfl, Or.inr rfl, trivial⟩⟩ (fun h => nomatch h) (Nat.le_of_ble_eq_true rfl) ⟨⟨Or.inr trivial, Or.inl rfl, trivial⟩, rfl, rfl, rfl, Nat.le_of_ble_eq_true rfl⟩ rfl zC6 (zat_G0 rfl) rfl dX6_glued_197 (fun r_197 w_197 hp => ?_) (fun _ _ h => h.elim)
          obtain ⟨rfl, rfl⟩ := hp
          refine z_weq (w' := [zH, zG _ _ _ _]) rfl ?_
          refine z_seq (S' := zi _ :: _) rfl ?_
          refine z_if_eqB F (tgt := 223) dX6_glued_200 (by decide) (fun c_200 => ?_) (fun c_200 => ?_)
          · refine z_iincN F 1 dX6_glued_223 rfl rfl ?_
            refine z_leq (L' := [_, _, _, _, _, _, _, _, _, _, _]) rfl ?_
            refine z_goto F (tgt := 183) dX6_glued_226 (by decide) ?_
            exact ih (r + 1) A1 (by omega) (by omega) hA (fun k hk => by rw [mg2, if_neg (by rw [c_200]; decide)]; exact hR k hk)
          · refine z_aload_n F dX6_glued_203 rfl ?_
            refine z_iload F dX6_glued_204 rfl ?_
            refine z_iload F dX6_glued_206 rfl ?_
            refine z_iload F dX6_glued_208 rfl ?_
            refine z_imulN F dX6_glued_210 ?_
            refine z_iaddN F dX6_glued_211 ?_
            refine z_iload F dX6_glued_212 rfl ?_
            refine z_iload F dX6_glued_214 rfl ?_
            refine z_iload F dX6_glued_216 rfl ?_
            refine z_imulN F dX6_glued_218 ?_
            refine z_iaddN F dX6_glued_219 ?_
            refine z_callV F (c_joins _ _ _ _ (p + nx * q) (p + nx * r) (by omega) (by omega)) 2 rfl (lw_V q1755 q1757 qs47 q117 q1758) (by decide +kernel) ⟨Nat.le_of_ble_eq_true rfl, Nat.le_of_ble_eq_true rfl⟩ ⟨by omega, by omega⟩ [0, 1] 2 ⟨rfl, rfl, rfl, ⟨Or.inl rfl, Or.inr rfl, trivial⟩⟩ (fun h => nomatch h) (Nat.le_of_ble_eq_true rfl) ⟨⟨Or.inr trivial, Or.inl rfl, trivial⟩, rfl, rfl, rfl, Nat.le_of_ble_eq_true rfl⟩ rfl zC6 (zat_G0 rfl) rfl dX6_glued_220 (fun r_220 w_220 hp => ?_) (fun _ _ h => h.elim)
            obtain ⟨rfl, rfl⟩ := hp
            refine z_weq (w' := [zH, zG _ _ _ _]) rfl ?_
            refine z_seq (S' := []) rfl ?_
            refine z_iincN F 1 dX6_glued_223 rfl rfl ?_
            refine z_leq (L' := [_, _, _, _, _, _, _, _, _, _, _]) rfl ?_
            refine z_goto F (tgt := 183) dX6_glued_226 (by decide) ?_
            refine ih (r + 1) _ (by omega) (by omega) (frm_fA hA (by decide)) (fun k hk => ?_)
            rw [fA_at, mg2, if_pos c_200]
            exact jn_cong hR (by omega) (by omega) hk
    have l1 : ∀ (q p : Nat) (f : Nat → Int32), q < ny → p < nx → (∀ A1, frm [6] A A1 → (∀ k, k < 24 → A1 6 k = mg2 nx fq q p (mg1 kd nx fp q p f nx) ny k) → Z X [some (zr 1 0), some (zi (nI j)), some (zi (nI kd)), some (zi (nI x)), some (zi (nI y)), some (zi (nI nx)), some (zi (nI ny)), some (zi (nI (d1 + d2))), some (zi (nI q)), some (zi (nI (p + 1))), none] [] [zH, zG F1 G A1 B] 0 0 116) →
        ∀ (m r : Nat) (A1 : Nat → Nat → Int32), nx - r < m → r ≤ nx → frm [6] A A1 → (∀ k, k < 24 → A1 6 k = mg1 kd nx fp q p f r k) → Z X [some (zr 1 0), some (zi (nI j)), some (zi (nI kd)), some (zi (nI x)), some (zi (nI y)), some (zi (nI nx)), some (zi (nI ny)), some (zi (nI (d1 + d2))), some (zi (nI q)), some (zi (nI p)), some (zi (nI r))] [] [zH, zG F1 G A1 B] 0 0 126 := by
      intro q p f hq hp0 kk m
      induction m with
      | zero => intro r A1 hm; omega
      | succ m ih =>
        intro r A1 hm hr hA hR
        have u1 := lin_lt hN hp0 hq
        have u2 : r < nx → r + nx * q < 24 := fun z => lin_lt hN z hq
        refine z_iload F dX6_glued_126 rfl ?_
        refine z_iload F dX6_glued_128 rfl ?_
        refine z_icmp_geN F (by omega) (by omega) (tgt := 180) dX6_glued_130 (by decide) (fun c_130 => ?_) (fun c_130 => ?_)
        · refine z_iconst F (nI 0) dX6_glued_180 rfl ?_
          refine z_istore F dX6_glued_181 (Nat.le_of_ble_eq_true rfl) ?_
          refine z_leq (L' := [_, _, _, _, _, _, _, _, _, _, _]) rfl ?_
          rw [show r = nx by omega] at hR
          exact l2 q p _ hq hp0 kk (ny + 1) 0 A1 (by omega) (by omega) hA hR
        · have u2 := u2 (by omega)
          refine z_iload_n F dX6_glued_133 rfl ?_
          refine z_if_eqN F (by omega) (tgt := 142) dX6_glued_134 (by decide) (fun c_134 => ?_) (fun c_134 => ?_)
          · refine z_aload_n F dX6_glued_142 rfl ?_
            refine z_iload_n F dX6_glued_143 rfl ?_
            refine z_iload F dX6_glued_144 rfl ?_
            refine z_iload F dX6_glued_146 rfl ?_
            refine z_callV F (c_mareJ F1 _ A1 _ x p r fp hx (by omega) (by omega) (by rw [hA.at 3 rfl]; exact s1.2.2 p (by omega))) 3 rfl (lw_V q1856 q1858 qs61 q117 q1859) (by decide +kernel) ⟨Nat.le_of_ble_eq_true rfl, Nat.le_of_ble_eq_true rfl⟩ ⟨by omega, by omega⟩ [0, 1] 2 ⟨rfl, rfl, rfl, ⟨Or.inl rfl, Or.inr rfl, trivial⟩⟩ (fun h => nomatch h) (Nat.le_of_ble_eq_true rfl) ⟨⟨Or.inr trivial, Or.inl rfl, trivial⟩, rfl, rfl, rfl, Nat.le_of_ble_eq_true rfl⟩ rfl zC6 (zat_G0 rfl) rfl dX6_glued_148 (fun r_148 w_148 hp => ?_) (fun _ _ h => h.elim)
            obtain ⟨rfl, rfl⟩ := hp
            refine z_weq (w' := [zH, zG _ _ _ _]) rfl ?_
            refine z_seq (S' := zi _ :: _) rfl ?_
            refine z_if_eqB F (tgt := 174) dX6_glued_151 (by decide) (fun c_151 => ?_) (fun c_151 => ?_)
            · refine z_iincN F 1 dX6_glued_174 rfl rfl ?_
              refine z_leq (L' := [_, _, _, _, _, _, _, _, _, _, _]) rfl ?_
              refine z_goto F (tgt := 126) dX6_glued_177 (by decide) ?_
              exact ih (r + 1) A1 (by omega) (by omega) hA (fun k hk => by rw [mg1, if_neg (fun z => by rw [z.2] at c_151; cases c_151)]; exact hR k hk)
            · refine z_aload_n F dX6_glued_154 rfl ?_
              refine z_iload F dX6_glued_155 rfl ?_
              refine z_iload F dX6_glued_157 rfl ?_
              refine z_iload F dX6_glued_159 rfl ?_
              refine z_imulN F dX6_glued_161 ?_
              refine z_iaddN F dX6_glued_162 ?_
              refine z_iload F dX6_glued_163 rfl ?_
              refine z_iload F dX6_glued_165 rfl ?_
              refine z_iload F dX6_glued_167 rfl ?_
              refine z_imulN F dX6_glued_169 ?_
              refine z_iaddN F dX6_glued_170 ?_
              refine z_callV F (c_joins _ _ _ _ (p + nx * q) (r + nx * q) (by omega) (by omega)) 2 rfl (lw_V q1755 q1757 qs47 q117 q1758) (by decide +kernel) ⟨Nat.le_of_ble_eq_true rfl, Nat.le_of_ble_eq_true rfl⟩ ⟨by omega, by omega⟩ [0, 1] 2 ⟨rfl, rfl, rfl, ⟨Or.inl rfl, Or.inr rfl, trivial⟩⟩ (fun h => nomatch h) (Nat.le_of_ble_eq_true rfl) ⟨⟨Or.inr trivial, Or.inl rfl, trivial⟩, rfl, rfl, rfl, Nat.le_of_ble_eq_true rfl⟩ rfl zC6 (zat_G0 rfl) rfl dX6_glued_171 (fun r_171 w_171 hp => ?_) (fun _ _ h => h.elim)
              obtain ⟨rfl, rfl⟩ := hp
              refine z_weq (w' := [zH, zG _ _ _ _]) rfl ?_
              refine z_seq (S' := []) rfl ?_
              refine z_iincN F 1 dX6_glued_174 rfl rfl ?_
              refine z_leq (L' := [_, _, _, _, _, _, _, _, _, _, _]) rfl ?_
              refine z_goto F (tgt := 126) dX6_glued_177 (by decide) ?_
              refine ih (r + 1) _ (by omega) (by omega) (frm_fA hA (by decide)) (fun k hk => ?_)
              rw [fA_at, mg1, if_pos ⟨by first | exact Or.inl c_134 | exact Or.inr c_139, c_151⟩]
              exact jn_cong hR (by omega) (by omega) hk
          · refine z_iload F dX6_glued_137 rfl ?_
            refine z_if_neN F (by omega) (tgt := 174) dX6_glued_139 (by decide) (fun c_139 => ?_) (fun c_139 => ?_)
            · refine z_iincN F 1 dX6_glued_174 rfl rfl ?_
              refine z_leq (L' := [_, _, _, _, _, _, _, _, _, _, _]) rfl ?_
              refine z_goto F (tgt := 126) dX6_glued_177 (by decide) ?_
              exact ih (r + 1) A1 (by omega) (by omega) hA (fun k hk => by rw [mg1, if_neg (fun z => z.1.elim c_134 c_139)]; exact hR k hk)
            · refine z_aload_n F dX6_glued_142 rfl ?_
              refine z_iload_n F dX6_glued_143 rfl ?_
              refine z_iload F dX6_glued_144 rfl ?_
              refine z_iload F dX6_glued_146 rfl ?_
              refine z_callV F (c_mareJ F1 _ A1 _ x p r fp hx (by omega) (by omega) (by rw [hA.at 3 rfl]; exact s1.2.2 p (by omega))) 3 rfl (lw_V q1856 q1858 qs61 q117 q1859) (by decide +kernel) ⟨Nat.le_of_ble_eq_true rfl, Nat.le_of_ble_eq_true rfl⟩ ⟨by omega, by omega⟩ [0, 1] 2 ⟨rfl, rfl, rfl, ⟨Or.inl rfl, Or.inr rfl, trivial⟩⟩ (fun h => nomatch h) (Nat.le_of_ble_eq_true rfl) ⟨⟨Or.inr trivial, Or.inl rfl, trivial⟩, rfl, rfl, rfl, Nat.le_of_ble_eq_true rfl⟩ rfl zC6 (zat_G0 rfl) rfl dX6_glued_148 (fun r_148 w_148 hp => ?_) (fun _ _ h => h.elim)
              obtain ⟨rfl, rfl⟩ := hp
              refine z_weq (w' := [zH, zG _ _ _ _]) rfl ?_
              refine z_seq (S' := zi _ :: _) rfl ?_
              refine z_if_eqB F (tgt := 174) dX6_glued_151 (by decide) (fun c_151 => ?_) (fun c_151 => ?_)
              · refine z_iincN F 1 dX6_glued_174 rfl rfl ?_
                refine z_leq (L' := [_, _, _, _, _, _, _, _, _, _, _]) rfl ?_
                refine z_goto F (tgt := 126) dX6_glued_177 (by decide) ?_
                exact ih (r + 1) A1 (by omega) (by omega) hA (fun k hk => by rw [mg1, if_neg (fun z => by rw [z.2] at c_151; cases c_151)]; exact hR k hk)
              · refine z_aload_n F dX6_glued_154 rfl ?_
                refine z_iload F dX6_glued_155 rfl ?_
                refine z_iload F dX6_glued_157 rfl ?_
                refine z_iload F dX6_glued_159 rfl ?_
                refine z_imulN F dX6_glued_161 ?_
                refine z_iaddN F dX6_glued_162 ?_
                refine z_iload F dX6_glued_163 rfl ?_
                refine z_iload F dX6_glued_165 rfl ?_
                refine z_iload F dX6_glued_167 rfl ?_
                refine z_imulN F dX6_glued_169 ?_
                refine z_iaddN F dX6_glued_170 ?_
                refine z_callV F (c_joins _ _ _ _ (p + nx * q) (r + nx * q) (by omega) (by omega)) 2 rfl (lw_V q1755 q1757 qs47 q117 q1758) (by decide +kernel) ⟨Nat.le_of_ble_eq_true rfl, Nat.le_of_ble_eq_true rfl⟩ ⟨by omega, by omega⟩ [0, 1] 2 ⟨rfl, rfl, rfl, ⟨Or.inl rfl, Or.inr rfl, trivial⟩⟩ (fun h => nomatch h) (Nat.le_of_ble_eq_true rfl) ⟨⟨Or.inr trivial, Or.inl rfl, trivial⟩, rfl, rfl, rfl, Nat.le_of_ble_eq_true rfl⟩ rfl zC6 (zat_G0 rfl) rfl dX6_glued_171 (fun r_171 w_171 hp => ?_) (fun _ _ h => h.elim)
                obtain ⟨rfl, rfl⟩ := hp
                refine z_weq (w' := [zH, zG _ _ _ _]) rfl ?_
                refine z_seq (S' := []) rfl ?_
                refine z_iincN F 1 dX6_glued_174 rfl rfl ?_
                refine z_leq (L' := [_, _, _, _, _, _, _, _, _, _, _]) rfl ?_
                refine z_goto F (tgt := 126) dX6_glued_177 (by decide) ?_
                refine ih (r + 1) _ (by omega) (by omega) (frm_fA hA (by decide)) (fun k hk => ?_)
                rw [fA_at, mg1, if_pos ⟨by first | exact Or.inl c_134 | exact Or.inr c_139, c_151⟩]
                exact jn_cong hR (by omega) (by omega) hk
    have lp : ∀ (q : Nat) (f : Nat → Int32), q < ny → (∀ A1, frm [6] A A1 → (∀ k, k < 24 → A1 6 k = mgp kd nx ny fp fq q f nx k) → Z X [some (zr 1 0), some (zi (nI j)), some (zi (nI kd)), some (zi (nI x)), some (zi (nI y)), some (zi (nI nx)), some (zi (nI ny)), some (zi (nI (d1 + d2))), some (zi (nI (q + 1))), none, none] [] [zH, zG F1 G A1 B] 0 0 106) →
        ∀ (m p : Nat) (A1 : Nat → Nat → Int32), nx - p < m → p ≤ nx → frm [6] A A1 → (∀ k, k < 24 → A1 6 k = mgp kd nx ny fp fq q f p k) → Z X [some (zr 1 0), some (zi (nI j)), some (zi (nI kd)), some (zi (nI x)), some (zi (nI y)), some (zi (nI nx)), some (zi (nI ny)), some (zi (nI (d1 + d2))), some (zi (nI q)), some (zi (nI p)), none] [] [zH, zG F1 G A1 B] 0 0 116 := by
      intro q f hq kk m
      induction m with
      | zero => intro p A1 hm; omega
      | succ m ih =>
        intro p A1 hm hp0 hA hR
        refine z_iload F dX6_glued_116 rfl ?_
        refine z_iload F dX6_glued_118 rfl ?_
        refine z_icmp_geN F (by omega) (by omega) (tgt := 235) dX6_glued_120 (by decide) (fun c_120 => ?_) (fun c_120 => ?_)
        · refine z_iincN F 1 dX6_glued_235 rfl rfl ?_
          refine z_leq (L' := [_, _, _, _, _, _, _, _, _, _, _]) rfl ?_
          refine z_goto F (tgt := 106) dX6_glued_238 (by decide) ?_
          rw [show p = nx by omega] at hR
          refine z_loc _ ?_ (kk A1 hA hR)
          exact ⟨rfl, rfl, rfl, rfl, rfl, rfl, rfl, rfl, rfl, trivial⟩
        · refine z_iconst F (nI 0) dX6_glued_123 rfl ?_
          refine z_istore F dX6_glued_124 (Nat.le_of_ble_eq_true rfl) ?_
          refine z_leq (L' := [_, _, _, _, _, _, _, _, _, _, _]) rfl ?_
          exact l1 q p _ hq (by omega) (fun A2 q1 q2 => ih (p + 1) A2 (by omega) (by omega) q1 q2) (nx + 1) 0 A1 (by omega) (by omega) hA hR
    have lq : ∀ (m q : Nat) (A1 : Nat → Nat → Int32), ny - q < m → q ≤ ny → frm [6] A A1 → (∀ k, k < 24 → A1 6 k = mgq kd nx ny fp fq q k) → Z X [some (zr 1 0), some (zi (nI j)), some (zi (nI kd)), some (zi (nI x)), some (zi (nI y)), some (zi (nI nx)), some (zi (nI ny)), some (zi (nI (d1 + d2))), some (zi (nI q)), none, none] [] [zH, zG F1 G A1 B] 0 0 106 := by
      intro m
      induction m with
      | zero => intro q A1 hm; omega
      | succ m ih =>
        intro q A1 hm hq hA hR
        refine z_iload F dX6_glued_106 rfl ?_
        refine z_iload F dX6_glued_108 rfl ?_
        refine z_icmp_geN F (by omega) (by omega) (tgt := 241) dX6_glued_110 (by decide) (fun c_110 => ?_) (fun c_110 => ?_)
        · rw [show q = ny by omega, mgq_cgk h1 h2 hN] at hR
          refine z_aload_n F dX6_glued_241 rfl ?_
          refine z_iload_n F dX6_glued_242 rfl ?_
          refine z_callV F (c_keeps F1 _ A1 _ j (nx * ny) (nI (d1 + d2)) (cgk kd nx fp fq (nx * ny)) hj ⟨f4, f5, hR⟩) 1 rfl (lw_V q1724 q1726 qs41 q117 q1727) (by decide +kernel) ⟨Nat.le_of_ble_eq_true rfl, Nat.le_of_ble_eq_true rfl⟩ ⟨by omega, by omega⟩ [0, 1] 2 ⟨rfl, rfl, rfl, ⟨Or.inl rfl, Or.inr rfl, trivial⟩⟩ (fun h => nomatch h) (Nat.le_of_ble_eq_true rfl) ⟨⟨Or.inr trivial, Or.inl rfl, trivial⟩, rfl, rfl, rfl, Nat.le_of_ble_eq_true rfl⟩ rfl zC6 (zat_G0 rfl) rfl dX6_glued_243 (fun r_243 w_243 hp => ?_) (fun _ _ h => h.elim)
          obtain ⟨rfl, A2, rfl, g1, g2, g3⟩ := hp
          refine z_weq (w' := [zH, zG _ _ _ _]) rfl ?_
          refine z_seq (S' := []) rfl ?_
          refine z_iconstB F true dX6_glued_246 rfl ?_
          exact z_zret F E rfl rfl dX6_glued_247 (by omega) (by omega) (⟨rfl, F1, A2, rfl, f1, f0, hA.tr g1 (by decide) (by decide), g2, fun i hi hne => (SltEq.of6 hA (by decide)).tr (g3 i hi hne)⟩)
        · refine z_iconst F (nI 0) dX6_glued_113 rfl ?_
          refine z_istore F dX6_glued_114 (Nat.le_of_ble_eq_true rfl) ?_
          refine z_leq (L' := [_, _, _, _, _, _, _, _, _, _, _]) rfl ?_
          exact lp q _ (by omega) (fun A2 q1 q2 => ih (q + 1) A2 (by omega) (by omega) q1 q2) (nx + 1) 0 A1 (by omega) (by omega) hA hR
    refine z_iconst F (nI 0) dX6_glued_103 rfl ?_
    refine z_istore F dX6_glued_104 (Nat.le_of_ble_eq_true rfl) ?_
    refine z_leq (L' := [_, _, _, _, _, _, _, _, _, _, _]) rfl ?_
    exact lq (ny + 1) 0 A0 (by omega) (by omega) hA0 hz
  refine z_aload_n F dX6_glued_0 rfl ?_
  refine z_iconst F (nI 0) dX6_glued_1 rfl ?_
  refine z_pmi F rfl 0 rfl (Nat.le_of_ble_eq_true rfl) rfl q1480 rfl rfl rfl dX6_glued_2 ?_
  refine z_weq (w' := [_, _]) rfl ?_
  refine z_aload_n F dX6_glued_5 rfl ?_
  refine z_iload_n F dX6_glued_6 rfl ?_
  refine z_callV F (c_mlies_ok (upd F0 0 (nI 0)) _ _ _ x nx hx p1 p3 rfl s1.1) 1 rfl (lw_V q1852 q1854 qs60 q117 q1855) (by decide +kernel) ⟨Nat.le_of_ble_eq_true rfl, Nat.le_of_ble_eq_true rfl⟩ ⟨by omega, by omega⟩ [0, 1] 2 ⟨rfl, rfl, rfl, ⟨Or.inl rfl, Or.inr rfl, trivial⟩⟩ (fun h => nomatch h) (Nat.le_of_ble_eq_true rfl) ⟨⟨Or.inr trivial, Or.inl rfl, trivial⟩, rfl, rfl, rfl, Nat.le_of_ble_eq_true rfl⟩ rfl zC6 (zat_G0 rfl) rfl dX6_glued_7 (fun r_7 w_7 hp => ?_) (fun _ _ h => h.elim)
  obtain ⟨rfl, rfl⟩ := hp
  refine z_weq (w' := [zH, zG _ _ _ _]) rfl ?_
  refine z_seq (S' := zi _ :: _) rfl ?_
  refine z_if_eqB F (tgt := 22) dX6_glued_10 (by decide) (fun c_10 => ?_) (fun c_10 => ?_)
  · cases c_10
  · refine z_aload_n F dX6_glued_13 rfl ?_
    refine z_iload F dX6_glued_14 rfl ?_
    refine z_callV F (c_mlies_ok (upd F0 0 (nI 0)) _ _ _ y ny hy p2 p4 rfl s2.1) 1 rfl (lw_V q1852 q1854 qs60 q117 q1855) (by decide +kernel) ⟨Nat.le_of_ble_eq_true rfl, Nat.le_of_ble_eq_true rfl⟩ ⟨by omega, by omega⟩ [0, 1] 2 ⟨rfl, rfl, rfl, ⟨Or.inl rfl, Or.inr rfl, trivial⟩⟩ (fun h => nomatch h) (Nat.le_of_ble_eq_true rfl) ⟨⟨Or.inr trivial, Or.inl rfl, trivial⟩, rfl, rfl, rfl, Nat.le_of_ble_eq_true rfl⟩ rfl zC6 (zat_G0 rfl) rfl dX6_glued_16 (fun r_16 w_16 hp => ?_) (fun _ _ h => h.elim)
    obtain ⟨rfl, rfl⟩ := hp
    refine z_weq (w' := [zH, zG _ _ _ _]) rfl ?_
    refine z_seq (S' := zi _ :: _) rfl ?_
    refine z_if_neB F (tgt := 24) dX6_glued_19 (by decide) (fun c_19 => ?_) (fun c_19 => ?_)
    · refine z_aload_n F dX6_glued_24 rfl ?_
      refine z_ma F rfl 1 rfl (Nat.le_of_ble_eq_true rfl) rfl q1481 dX6_glued_25 ?_
      refine z_iload_n F dX6_glued_28 rfl ?_
      refine z_ialdGN F rfl rfl (Nat.le_of_ble_eq_true rfl) (by omega) rfl dX6_glued_29 ?_
      refine z_ieq (s1.1) ?_
      refine z_istore F dX6_glued_30 (Nat.le_of_ble_eq_true rfl) ?_
      refine z_leq (L' := [_, _, _, _, _, _, _, _, _, _, _]) rfl ?_
      refine z_aload_n F dX6_glued_32 rfl ?_
      refine z_ma F rfl 1 rfl (Nat.le_of_ble_eq_true rfl) rfl q1481 dX6_glued_33 ?_
      refine z_iload F dX6_glued_36 rfl ?_
      refine z_ialdGN F rfl rfl (Nat.le_of_ble_eq_true rfl) (by omega) rfl dX6_glued_38 ?_
      refine z_ieq (s2.1) ?_
      refine z_istore F dX6_glued_39 (Nat.le_of_ble_eq_true rfl) ?_
      refine z_leq (L' := [_, _, _, _, _, _, _, _, _, _, _]) rfl ?_
      refine z_aload_n F dX6_glued_41 rfl ?_
      refine z_ma F rfl 2 rfl (Nat.le_of_ble_eq_true rfl) rfl q1482 dX6_glued_42 ?_
      refine z_iload_n F dX6_glued_45 rfl ?_
      refine z_ialdGN F rfl rfl (Nat.le_of_ble_eq_true rfl) (by omega) rfl dX6_glued_46 ?_
      refine z_ieq (s1.2.1) ?_
      refine z_aload_n F dX6_glued_47 rfl ?_
      refine z_ma F rfl 2 rfl (Nat.le_of_ble_eq_true rfl) rfl q1482 dX6_glued_48 ?_
      refine z_iload F dX6_glued_51 rfl ?_
      refine z_ialdGN F rfl rfl (Nat.le_of_ble_eq_true rfl) (by omega) rfl dX6_glued_53 ?_
      refine z_ieq (s2.2.1) ?_
      refine z_iaddN F dX6_glued_54 ?_
      refine z_istore F dX6_glued_55 (Nat.le_of_ble_eq_true rfl) ?_
      refine z_leq (L' := [_, _, _, _, _, _, _, _, _, _, _]) rfl ?_
      refine z_iload_n F dX6_glued_57 rfl ?_
      refine z_callS F (c_isSlot (nI j)) 1 rfl (lw_S q1714 q1715 q117 q1716) (by decide +kernel) ⟨Nat.le_of_ble_eq_true rfl, Nat.le_of_ble_eq_true rfl⟩ ⟨by omega, by omega⟩ [0] 2 ⟨rfl, rfl, rfl, ⟨Or.inl rfl, trivial⟩⟩ (fun h => nomatch h) (Nat.le_of_ble_eq_true rfl) ⟨⟨Or.inr trivial, Or.inr trivial, trivial⟩, rfl, rfl, rfl, Nat.le_of_ble_eq_true rfl⟩ rfl rfl dX6_glued_58 (fun r_58 w_58 hp => ?_) (fun _ _ h => h.elim)
      obtain ⟨rfl, rfl⟩ := hp
      refine z_weq (w' := [zH, zG _ _ _ _]) rfl ?_
      refine z_seq (S' := zi _ :: _) rfl ?_
      refine z_if_eqB F (tgt := 90) dX6_glued_61 (by decide) (fun c_61 => ?_) (fun c_61 => ?_)
      · rw [slB_n hj] at c_61; cases c_61
      · refine z_iload_n F dX6_glued_64 rfl ?_
        refine z_if_eqN F (by omega) (tgt := 73) dX6_glued_65 (by decide) (fun c_65 => ?_) (fun c_65 => ?_)
        · refine z_iload F dX6_glued_73 rfl ?_
          refine z_iload F dX6_glued_75 rfl ?_
          refine z_imulN F dX6_glued_77 ?_
          refine z_bipush F (nI 24) dX6_glued_78 rfl ?_
          refine z_icmp_gtN F (by omega) (by omega) (tgt := 90) dX6_glued_80 (by decide) (fun c_80 => ?_) (fun c_80 => ?_)
          · exact absurd c_80 (by omega)
          · refine z_iload F dX6_glued_83 rfl ?_
            refine z_bipush F (nI 8) dX6_glued_85 rfl ?_
            refine z_icmp_leN F (by omega) (by omega) (tgt := 92) dX6_glued_87 (by decide) (fun c_87 => ?_) (fun c_87 => ?_)
            · refine z_aload_n F dX6_glued_92 rfl ?_
              refine z_iload F dX6_glued_93 rfl ?_
              refine z_iload F dX6_glued_95 rfl ?_
              refine z_imulN F dX6_glued_97 ?_
              refine z_iload F dX6_glued_98 rfl ?_
              refine z_callV F (c_clears _ _ _ _ (nx * ny) (nI (d1 + d2))) 2 rfl (lw_V q1720 q1722 qs40 q117 q1723) (by decide +kernel) ⟨Nat.le_of_ble_eq_true rfl, Nat.le_of_ble_eq_true rfl⟩ ⟨by omega, by omega⟩ [0, 1] 2 ⟨rfl, rfl, rfl, ⟨Or.inl rfl, Or.inr rfl, trivial⟩⟩ (fun h => nomatch h) (Nat.le_of_ble_eq_true rfl) ⟨⟨Or.inr trivial, Or.inl rfl, trivial⟩, rfl, rfl, rfl, Nat.le_of_ble_eq_true rfl⟩ rfl zC6 (zat_G0 rfl) rfl dX6_glued_100 (fun r_100 w_100 hp => ?_) (fun _ _ h => h.elim)
              obtain ⟨rfl, F1, A1, rfl, f1, f2, f3⟩ := hp
              refine z_weq (w' := [zH, zG _ _ _ _]) rfl ?_
              refine z_seq (S' := []) rfl ?_
              exact rest F1 A1 ((frm_upd (l := [0]) frm.rf (by decide)).tr f1 (by decide) (by decide)) (by rw [f1.at 0 rfl]; rfl) f3.1 f3.2.1 f2 f3.2.2
            · exact absurd c_87 (by omega)
        · refine z_iload_n F dX6_glued_68 rfl ?_
          refine z_iconst F (nI 1) dX6_glued_69 rfl ?_
          refine z_icmp_neN F (by omega) (by omega) (tgt := 90) dX6_glued_70 (by decide) (fun c_70 => ?_) (fun c_70 => ?_)
          · exact absurd c_70 (by omega)
          · refine z_iload F dX6_glued_73 rfl ?_
            refine z_iload F dX6_glued_75 rfl ?_
            refine z_imulN F dX6_glued_77 ?_
            refine z_bipush F (nI 24) dX6_glued_78 rfl ?_
            refine z_icmp_gtN F (by omega) (by omega) (tgt := 90) dX6_glued_80 (by decide) (fun c_80 => ?_) (fun c_80 => ?_)
            · exact absurd c_80 (by omega)
            · refine z_iload F dX6_glued_83 rfl ?_
              refine z_bipush F (nI 8) dX6_glued_85 rfl ?_
              refine z_icmp_leN F (by omega) (by omega) (tgt := 92) dX6_glued_87 (by decide) (fun c_87 => ?_) (fun c_87 => ?_)
              · refine z_aload_n F dX6_glued_92 rfl ?_
                refine z_iload F dX6_glued_93 rfl ?_
                refine z_iload F dX6_glued_95 rfl ?_
                refine z_imulN F dX6_glued_97 ?_
                refine z_iload F dX6_glued_98 rfl ?_
                refine z_callV F (c_clears _ _ _ _ (nx * ny) (nI (d1 + d2))) 2 rfl (lw_V q1720 q1722 qs40 q117 q1723) (by decide +kernel) ⟨Nat.le_of_ble_eq_true rfl, Nat.le_of_ble_eq_true rfl⟩ ⟨by omega, by omega⟩ [0, 1] 2 ⟨rfl, rfl, rfl, ⟨Or.inl rfl, Or.inr rfl, trivial⟩⟩ (fun h => nomatch h) (Nat.le_of_ble_eq_true rfl) ⟨⟨Or.inr trivial, Or.inl rfl, trivial⟩, rfl, rfl, rfl, Nat.le_of_ble_eq_true rfl⟩ rfl zC6 (zat_G0 rfl) rfl dX6_glued_100 (fun r_100 w_100 hp => ?_) (fun _ _ h => h.elim)
                obtain ⟨rfl, F1, A1, rfl, f1, f2, f3⟩ := hp
                refine z_weq (w' := [zH, zG _ _ _ _]) rfl ?_
                refine z_seq (S' := []) rfl ?_
                exact rest F1 A1 ((frm_upd (l := [0]) frm.rf (by decide)).tr f1 (by decide) (by decide)) (by rw [f1.at 0 rfl]; rfl) f3.1 f3.2.1 f2 f3.2.2
              · exact absurd c_87 (by omega)
    · cases c_19
end C9a
