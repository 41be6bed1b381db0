/-! turned -/
section C96
theorem gth_r0 {kd a b x : Nat} (h : grok kd a b) (hx : x < a * b) : gth kd a b x 0 = x := by
  obtain ⟨h1, h2, h3, h4, h5⟩ := h
  have hi : x % a < a := Nat.mod_lt _ h2
  unfold gth gi
  rw [Nat.zero_mod, Nat.zero_div, Nat.add_zero, Nat.add_zero, Nat.sub_zero, Nat.add_mod_right, Nat.mod_eq_of_lt hi, Nat.mod_eq_of_lt (dm_lt hx)]
  split
  · exact Nat.mod_add_div x a
  · split <;> exact Nat.mod_add_div x a
theorem gop_1 {kd a b s : Nat} (h : grok kd a b) (hs : s < a * b) (h1 : 1 ≤ s) : 1 ≤ gop kd a b s := by
  rcases Nat.eq_zero_or_pos (gop kd a b s) with q | q
  · have := gth_op0 h hs
    rw [q, gth_r0 h hs] at this
    omega
  · exact q
theorem trr_b {kd a b : Nat} {m : Int32} (h : grok kd a b) {x : Nat} {f : Nat → Int32} (hx : x < a * b) (u v : Nat) : ∀ s, bt (trr kd a b m x f s u) v = true ↔ bt (f u) v = true ∨ ∃ t, 1 ≤ t ∧ t < s ∧ bt m t = true ∧ (u = x ∧ v = gth kd a b x t ∨ u = gth kd a b x t ∧ v = x)
  | 0 => by
    show bt (f u) v = true ↔ _
    exact ⟨Or.inl, fun z => z.elim id fun ⟨t, _, h2, _⟩ => (by omega)⟩
  | s + 1 => by
    have h4 := h.2.2.2.1
    have hl := gth_lt (x := x) (s := s) h
    rw [trr]
    by_cases q : 1 ≤ s ∧ bt m s = true
    · rw [if_pos q, bt_jn (by omega) (by omega)]
      simp only [Bool.or_eq_true, Bool.and_eq_true, decide_eq_true_eq]
      rw [trr_b h hx u v s]
      constructor
      · rintro (((h1 | ⟨t, t1, t2, t3⟩) | ⟨h1, h2⟩) | ⟨h1, h2⟩)
        · exact Or.inl h1
        · exact Or.inr ⟨t, t1, by omega, t3⟩
        · exact Or.inr ⟨s, q.1, by omega, q.2, Or.inl ⟨h1, h2⟩⟩
        · exact Or.inr ⟨s, q.1, by omega, q.2, Or.inr ⟨h1, h2⟩⟩
      · rintro (h1 | ⟨t, t1, t2, t3, t4⟩)
        · exact Or.inl (Or.inl (Or.inl h1))
        · by_cases e : t = s
          · subst e
            rcases t4 with t4 | t4
            · exact Or.inl (Or.inr t4)
            · exact Or.inr t4
          · exact Or.inl (Or.inl (Or.inr ⟨t, t1, by omega, t3, t4⟩))
    · rw [if_neg q, trr_b h hx u v s]
      constructor
      · rintro (h1 | ⟨t, t1, t2, t3⟩)
        · exact Or.inl h1
        · exact Or.inr ⟨t, t1, by omega, t3⟩
      · rintro (h1 | ⟨t, t1, t2, t3, t4⟩)
        · exact Or.inl h1
        · by_cases e : t = s
          · subst e; exact absurd ⟨t1, t3⟩ q
          · exact Or.inr ⟨t, t1, by omega, t3, t4⟩
theorem tra_b {kd a b : Nat} {m : Int32} (h : grok kd a b) (u v : Nat) : ∀ X, X ≤ a * b → (bt (tra kd a b m X u) v = true ↔ ∃ x t, x < X ∧ 1 ≤ t ∧ t < a * b ∧ bt m t = true ∧ (u = x ∧ v = gth kd a b x t ∨ u = gth kd a b x t ∧ v = x))
  | 0, _ => by
    show bt (nI 0) v = true ↔ _
    rw [show bt (nI 0) v = false from b_0 v]
    exact ⟨fun z => (by cases z), fun ⟨x, t, h1, _⟩ => (by omega)⟩
  | X + 1, hX => by
    rw [tra, trr_b h (by omega), tra_b h u v X (by omega)]
    constructor
    · rintro (⟨x, t, h1, h2⟩ | ⟨t, h2⟩)
      · exact ⟨x, t, by omega, h2⟩
      · exact ⟨X, t, by omega, h2⟩
    · rintro ⟨x, t, h1, h2⟩
      by_cases e : x = X
      · subst e; exact Or.inr ⟨t, h2⟩
      · exact Or.inl ⟨x, t, by omega, h2⟩
theorem tra_all {kd a b : Nat} {m : Int32} (h : grok kd a b) (hm : amv kd a b m = true) (u v : Nat) : bt (tra kd a b m (a * b) u) v = true ↔ u < a * b ∧ ∃ t, 1 ≤ t ∧ t < a * b ∧ bt m t = true ∧ v = gth kd a b u t := by
  rw [tra_b h u v _ (Nat.le_refl _)]
  have hc := (amv_t.mp hm).2.2.2.2
  constructor
  · rintro ⟨x, t, h1, h2, h3, h4, h5 | h5⟩
    · obtain ⟨rfl, rfl⟩ := h5
      exact ⟨h1, t, h2, h3, h4, rfl⟩
    · obtain ⟨rfl, rfl⟩ := h5
      exact ⟨gth_lt h, gop kd a b t, gop_1 h h3 h2, gop_lt h h3, hc t h3 h2 h4, (gth_gop h h1 h3).symm⟩
  · rintro ⟨h1, t, h2, h3, h4, h5⟩
    exact ⟨u, t, h1, h2, h3, h4, Or.inl ⟨rfl, h5⟩⟩
theorem tra_nok {kd a b : Nat} {m : Int32} (h : grok kd a b) (hm : amv kd a b m = true) : nok (a * b) (max 1 (pc32 m)) (tra kd a b m (a * b)) := by
  obtain ⟨m1, m2, m3, m4, m5⟩ := amv_t.mp hm
  have h4 := h.2.2.2.1
  have key := tra_all h hm
  have hsy : ∀ u v, bt (tra kd a b m (a * b) u) v = true → bt (tra kd a b m (a * b) v) u = true := fun u v q => by
    obtain ⟨h1, t, t1, t2, t3, rfl⟩ := (key u v).mp q
    exact (key _ u).mpr ⟨gth_lt h, gop kd a b t, gop_1 h t2 t1, gop_lt h t2, m5 t t2 t1 t3, (gth_gop h h1 t2).symm⟩
  refine ⟨Nat.mul_pos h.2.1 h.2.2.1, h4, by omega, by omega, fun u v _ _ => Bool.eq_iff_iff.mpr ⟨hsy u v, hsy v u⟩, fun u _ => ?_, fun u _ v hv' => ?_, fun u _ => ?_, fun k hk hk2 => ?_⟩
  · cases e : bt (tra kd a b m (a * b) u) u with
    | false => rfl
    | true =>
      obtain ⟨h1, t, t1, t2, t3, t4⟩ := (key u u).mp e
      have := gth_ne h h1 t2 t4.symm
      omega
  · cases e : bt (tra kd a b m (a * b) u) v with
    | false => rfl
    | true =>
      obtain ⟨h1, t, t1, t2, t3, t4⟩ := (key u v).mp e
      have := gth_lt (x := u) (s := t) h
      omega
  · have : pc32 (tra kd a b m (a * b) u) ≤ pc32 m := fb_ct_img (g := gth kd a b u) 32 _ (fun v hv' hq => by
      obtain ⟨h1, t, t1, t2, t3, t4⟩ := (key u v).mp hq
      exact ⟨t, by omega, t3, t4.symm⟩)
    omega
  · refine b_ext fun i _ => ?_
    rw [show bt (nI 0) i = false from b_0 i]
    cases e : bt (tra kd a b m (a * b) k) i with
    | false => rfl
    | true => have := ((key k i).mp e).1; omega
def trB (s k a b m : Int32) : Bool := slB s && (grB k a b && amv k.toNatClampNeg a.toNatClampNeg b.toNatClampNeg m)
theorem trB_n {j kd a b : Nat} {m : Int32} (hj : j < 8) (h : grok kd a b) (hm : amv kd a b m = true) : trB (nI j) (nI kd) (nI a) (nI b) m = true := by
  have h4 := h
  obtain ⟨h1, h2, h3, h5, h6⟩ := h4
  have ha : a ≤ 24 := Nat.le_trans (Nat.le_mul_of_pos_right a h3) h5
  have hb : b ≤ 24 := Nat.le_trans (Nat.le_mul_of_pos_left b h2) h5
  unfold trB
  rw [slB_n hj, grB_n h, zcl_n (by omega), zcl_n (by omega), zcl_n (by omega), hm]; rfl
theorem trB_of {s k a b m : Int32} (h : trB s k a b m = true) : ∃ j kd x y, j < 8 ∧ s = nI j ∧ k = nI kd ∧ a = nI x ∧ b = nI y ∧ grok kd x y ∧ amv kd x y m = true := by
  unfold trB at h
  rw [Bool.and_eq_true, Bool.and_eq_true] at h
  obtain ⟨j, hj, rfl⟩ := slB_of h.1
  obtain ⟨kd, x, y, rfl, rfl, rfl, hg⟩ := grB_of h.2.1
  have h5 := h.2.2
  obtain ⟨h1, h2, h3, h4, h6⟩ := id hg
  have ha : x ≤ 24 := Nat.le_trans (Nat.le_mul_of_pos_right x h3) h4
  have hb : y ≤ 24 := Nat.le_trans (Nat.le_mul_of_pos_left y h2) h4
  rw [zcl_n (by omega), zcl_n (by omega), zcl_n (by omega)] at h5
  exact ⟨j, kd, x, y, hj, rfl, rfl, rfl, rfl, hg, h5⟩
theorem c_pturned_no (P : zPt) (t : Nat) (fp : Int32) (s k a b m : Int32) (h : trB s k a b m = false) : zCtr yX1_turned cX1_turned 7 (some .boolean) 6 3 43 [zr 1 0, zi s, zi k, zi a, zi b, zi m] (xH P t fp) (fun r w => r = some (zi (bI false)) ∧ w = xH P t fp) zNx := by
  refine z_start (by decide) [some (zr 1 0), some (zi s), some (zi k), some (zi a), some (zi b), some (zi m), none] rfl (fun _ => Nat.le_of_ble_eq_true rfl) (fun _ => rfl) (fun X F E hno hin => ?_)
  refine z_iload_n F dX1_turned_0 rfl ?_
  refine z_callS F (c_xSlot s) 1 rfl (lw_S q346 q347 q109 q348) (by decide +kernel) ⟨Nat.le_of_ble_eq_true rfl, Nat.le_of_ble_eq_true rfl⟩ ⟨by omega, by omega⟩ [0] 22 ⟨rfl, rfl, rfl, ⟨Or.inl rfl, trivial⟩⟩ (fun h => nomatch h) (Nat.le_of_ble_eq_true rfl) ⟨⟨Or.inr (by first | exact ⟨rfl, pR_B _ (by decide)⟩ | exact ⟨rfl, uR_B (by decide) (by decide)⟩), Or.inr rfl, Or.inr trivial, Or.inr trivial, Or.inr trivial, Or.inr trivial, Or.inr trivial, Or.inr trivial, Or.inr trivial, Or.inr trivial, Or.inr trivial, Or.inr trivial, Or.inr trivial, Or.inr trivial, Or.inr trivial, Or.inr trivial, Or.inr trivial, Or.inr trivial, Or.inr trivial, Or.inr trivial, Or.inr trivial, Or.inr trivial, trivial⟩, rfl, rfl, rfl, Nat.le_of_ble_eq_true rfl⟩ rfl rfl dX1_turned_1 (fun r_1 w_1 hp => ?_) (fun _ _ h => h.elim)
  obtain ⟨rfl, rfl⟩ := hp
  refine z_weq (w' := [zPl _ _, zO _ [zr _ _, zr _ _, zr _ _, zr _ _, zr _ _, zi _, zi _, zr _ _, zr _ _], zH, zH, zH, zH, zH, zH, zH, zH, zH, zH, zH, zH, zH, zH, zH, zH, zH, zH, zH, zH]) rfl ?_
  refine z_seq (S' := zi _ :: _) rfl ?_
  refine z_if_eqB F (tgt := 17) dX1_turned_4 (by decide) (fun c_4 => ?_) (fun c_4 => ?_)
  · refine z_iconstB F false dX1_turned_17 rfl ?_
    exact z_zret F E rfl rfl dX1_turned_18 (by omega) (by omega) (⟨rfl, rfl⟩)
  · refine z_iload_n F dX1_turned_7 rfl ?_
    refine z_iload_n F dX1_turned_8 rfl ?_
    refine z_iload F dX1_turned_9 rfl ?_
    refine z_callS F (c_gcan k a b) 3 rfl (lw_S q369 q370 q132 q371) (by decide +kernel) ⟨Nat.le_of_ble_eq_true rfl, Nat.le_of_ble_eq_true rfl⟩ ⟨by omega, by omega⟩ [0] 22 ⟨rfl, rfl, rfl, ⟨Or.inl rfl, trivial⟩⟩ (fun h => nomatch h) (Nat.le_of_ble_eq_true rfl) ⟨⟨Or.inr (by first | exact ⟨rfl, pR_B _ (by decide)⟩ | exact ⟨rfl, uR_B (by decide) (by decide)⟩), Or.inr rfl, Or.inr trivial, Or.inr trivial, Or.inr trivial, Or.inr trivial, Or.inr trivial, Or.inr trivial, Or.inr trivial, Or.inr trivial, Or.inr trivial, Or.inr trivial, Or.inr trivial, Or.inr trivial, Or.inr trivial, Or.inr trivial, Or.inr trivial, Or.inr trivial, Or.inr trivial, Or.inr trivial, Or.inr trivial, Or.inr trivial, trivial⟩, rfl, rfl, rfl, Nat.le_of_ble_eq_true rfl⟩ rfl rfl dX1_turned_11 (fun r_11 w_11 hp => ?_) (fun _ _ h => h.elim)
    obtain ⟨rfl, rfl⟩ := hp
    refine z_weq (w' := [zPl _ _, zO _ [zr _ _, zr _ _, zr _ _, zr _ _, zr _ _, zi _, zi _, zr _ _, zr _ _], zH, zH, zH, zH, zH, zH, zH, zH, zH, zH, zH, zH, zH, zH, zH, zH, zH, zH, zH, zH]) rfl ?_
    refine z_seq (S' := zi _ :: _) rfl ?_
    refine z_if_neB F (tgt := 19) dX1_turned_14 (by decide) (fun c_14 => ?_) (fun c_14 => ?_)
    · obtain ⟨kd, x, y, rfl, rfl, rfl, hg⟩ := grB_of c_14
      obtain ⟨j, hj, rfl⟩ := slB_of c_4
      refine z_new F 22 [zi 0, zi 0, zi 0] zC9 q373 q374 q132 (fun _ j hj => by match j, hj with | 0, _ => rfl | 1, _ => rfl | 2, _ => rfl) rfl (Nat.le_of_ble_eq_true rfl) (Nat.le_of_ble_eq_true rfl) ⟨(by first | exact pR_N _ (Nat.le_of_ble_eq_true rfl) | exact uR_N (Nat.le_of_ble_eq_true rfl) (Nat.le_of_ble_eq_true rfl)), rfl, trivial, trivial, trivial, trivial, trivial, trivial, trivial, trivial, trivial, trivial, trivial, trivial, trivial, trivial, trivial, trivial, trivial, trivial, trivial, trivial, trivial⟩ rfl rfl ⟨by omega, by omega⟩ dX1_turned_19 ?_
      refine z_weq (w' := [_, _, _, _, _, _, _, _, _, _, _, _, _, _, _, _, _, _, _, _, _, _, _]) rfl ?_
      refine z_dup F dX1_turned_22 rfl ?_
      refine z_iload_n F dX1_turned_23 rfl ?_
      refine z_iload_n F dX1_turned_24 rfl ?_
      refine z_iload F dX1_turned_25 rfl ?_
      refine z_callI F (c_ginit kd x y) 3 rfl (lw_meth q377) q132 q375 q376 rfl (by decide +kernel) ⟨Nat.le_of_ble_eq_true rfl, Nat.le_of_ble_eq_true rfl⟩ ⟨by omega, by omega⟩ [0, 22] 23 ⟨rfl, rfl, rfl, ⟨Or.inl rfl, Or.inr rfl, trivial⟩⟩ (fun h => nomatch h) (Nat.le_of_ble_eq_true rfl) ⟨⟨Or.inr (by first | exact ⟨rfl, pR_B _ (by decide)⟩ | exact ⟨rfl, uR_B (by decide) (by decide)⟩), Or.inr rfl, Or.inr trivial, Or.inr trivial, Or.inr trivial, Or.inr trivial, Or.inr trivial, Or.inr trivial, Or.inr trivial, Or.inr trivial, Or.inr trivial, Or.inr trivial, Or.inr trivial, Or.inr trivial, Or.inr trivial, Or.inr trivial, Or.inr trivial, Or.inr trivial, Or.inr trivial, Or.inr trivial, Or.inr trivial, Or.inr trivial, Or.inl rfl, trivial⟩, rfl, rfl, rfl, Nat.le_of_ble_eq_true rfl⟩ rfl rfl dX1_turned_27 (fun r_27 w_27 hp => ?_) (fun _ _ h => h.elim)
      obtain ⟨rfl, rfl⟩ := hp
      refine z_weq (w' := [zPl _ _, zO _ [zr _ _, zr _ _, zr _ _, zr _ _, zr _ _, zi _, zi _, zr _ _, zr _ _], zH, zH, zH, zH, zH, zH, zH, zH, zH, zH, zH, zH, zH, zH, zH, zH, zH, zH, zH, zH, zO _ [zi _, zi _, zi _]]) rfl ?_
      refine z_seq (S' := [_]) rfl ?_
      refine z_astore F dX1_turned_30 (Nat.le_of_ble_eq_true rfl) ?_
      refine z_leq (L' := [_, _, _, _, _, _, _]) rfl ?_
      refine z_aload F dX1_turned_32 rfl ?_
      refine z_iload F dX1_turned_34 rfl ?_
      refine z_callV F (c_gam kd x y m hg) 1 rfl (lw_V q390 q391 q392 q132 q393) (by decide +kernel) ⟨Nat.le_of_ble_eq_true rfl, Nat.le_of_ble_eq_true rfl⟩ ⟨by omega, by omega⟩ [0, 22] 23 ⟨rfl, rfl, rfl, ⟨Or.inl rfl, Or.inr rfl, trivial⟩⟩ (fun h => nomatch h) (Nat.le_of_ble_eq_true rfl) ⟨⟨Or.inr (by first | exact ⟨rfl, pR_B _ (by decide)⟩ | exact ⟨rfl, uR_B (by decide) (by decide)⟩), Or.inr rfl, Or.inr trivial, Or.inr trivial, Or.inr trivial, Or.inr trivial, Or.inr trivial, Or.inr trivial, Or.inr trivial, Or.inr trivial, Or.inr trivial, Or.inr trivial, Or.inr trivial, Or.inr trivial, Or.inr trivial, Or.inr trivial, Or.inr trivial, Or.inr trivial, Or.inr trivial, Or.inr trivial, Or.inr trivial, Or.inr trivial, Or.inl rfl, trivial⟩, rfl, rfl, rfl, Nat.le_of_ble_eq_true rfl⟩ rfl zC9 rfl rfl dX1_turned_36 (fun r_36 w_36 hp => ?_) (fun _ _ h => h.elim)
      obtain ⟨rfl, rfl⟩ := hp
      refine z_weq (w' := [zPl _ _, zO _ [zr _ _, zr _ _, zr _ _, zr _ _, zr _ _, zi _, zi _, zr _ _, zr _ _], zH, zH, zH, zH, zH, zH, zH, zH, zH, zH, zH, zH, zH, zH, zH, zH, zH, zH, zH, zH, zO _ [zi _, zi _, zi _]]) rfl ?_
      refine z_seq (S' := zi _ :: _) rfl ?_
      refine z_if_neB F (tgt := 44) dX1_turned_39 (by decide) (fun c_39 => ?_) (fun c_39 => ?_)
      · rw [trB_n hj hg c_39] at h; cases h
      · refine z_iconstB F false dX1_turned_42 rfl ?_
        refine z_take F 22 [zPl _ _, zO _ [zr _ _, zr _ _, zr _ _, zr _ _, zr _ _, zi _, zi _, zr _ _, zr _ _], zH, zH, zH, zH, zH, zH, zH, zH, zH, zH, zH, zH, zH, zH, zH, zH, zH, zH, zH, zH] rfl ?_
        exact z_zret F E rfl rfl dX1_turned_43 (by omega) (by omega) (⟨rfl, rfl⟩)
    · refine z_iconstB F false dX1_turned_17 rfl ?_
      exact z_zret F E rfl rfl dX1_turned_18 (by omega) (by omega) (⟨rfl, rfl⟩)
theorem c_pturned_ok (P : zPt) (t : Nat) (fp : Int32) (j kd a b : Nat) (m : Int32) (hj : j < 8) (hg : grok kd a b) (hm : amv kd a b m = true) : zCtr yX1_turned cX1_turned 7 (some .boolean) 6 3 43 [zr 1 0, zi (nI j), zi (nI kd), zi (nI a), zi (nI b), zi m] (xH P t fp) (fun r w => r = some (zi (bI true)) ∧ w = xH (zput P j (some (nI (a * b), nI (max 1 (pc32 m)), tra kd a b m (a * b)))) t fp) zNx := by
  refine z_start (by decide) [some (zr 1 0), some (zi (nI j)), some (zi (nI kd)), some (zi (nI a)), some (zi (nI b)), some (zi m), none] rfl (fun _ => Nat.le_of_ble_eq_true rfl) (fun _ => rfl) (fun X F E hno hin => ?_)
  refine z_iload_n F dX1_turned_0 rfl ?_
  refine z_callS F (c_xSlot (nI j)) 1 rfl (lw_S q346 q347 q109 q348) (by decide +kernel) ⟨Nat.le_of_ble_eq_true rfl, Nat.le_of_ble_eq_true rfl⟩ ⟨by omega, by omega⟩ [0] 22 ⟨rfl, rfl, rfl, ⟨Or.inl rfl, trivial⟩⟩ (fun h => nomatch h) (Nat.le_of_ble_eq_true rfl) ⟨⟨Or.inr (by first | exact ⟨rfl, pR_B _ (by decide)⟩ | exact ⟨rfl, uR_B (by decide) (by decide)⟩), Or.inr rfl, Or.inr trivial, Or.inr trivial, Or.inr trivial, Or.inr trivial, Or.inr trivial, Or.inr trivial, Or.inr trivial, Or.inr trivial, Or.inr trivial, Or.inr trivial, Or.inr trivial, Or.inr trivial, Or.inr trivial, Or.inr trivial, Or.inr trivial, Or.inr trivial, Or.inr trivial, Or.inr trivial, Or.inr trivial, Or.inr trivial, trivial⟩, rfl, rfl, rfl, Nat.le_of_ble_eq_true rfl⟩ rfl rfl dX1_turned_1 (fun r_1 w_1 hp => ?_) (fun _ _ h => h.elim)
  obtain ⟨rfl, rfl⟩ := hp
  refine z_weq (w' := [zPl _ _, zO _ [zr _ _, zr _ _, zr _ _, zr _ _, zr _ _, zi _, zi _, zr _ _, zr _ _], zH, zH, zH, zH, zH, zH, zH, zH, zH, zH, zH, zH, zH, zH, zH, zH, zH, zH, zH, zH]) rfl ?_
  refine z_seq (S' := zi _ :: _) rfl ?_
  refine z_if_eqB F (tgt := 17) dX1_turned_4 (by decide) (fun c_4 => ?_) (fun c_4 => ?_)
  · rw [slB_n hj] at c_4; cases c_4
  · refine z_iload_n F dX1_turned_7 rfl ?_
    refine z_iload_n F dX1_turned_8 rfl ?_
    refine z_iload F dX1_turned_9 rfl ?_
    refine z_callS F (c_gcan (nI kd) (nI a) (nI b)) 3 rfl (lw_S q369 q370 q132 q371) (by decide +kernel) ⟨Nat.le_of_ble_eq_true rfl, Nat.le_of_ble_eq_true rfl⟩ ⟨by omega, by omega⟩ [0] 22 ⟨rfl, rfl, rfl, ⟨Or.inl rfl, trivial⟩⟩ (fun h => nomatch h) (Nat.le_of_ble_eq_true rfl) ⟨⟨Or.inr (by first | exact ⟨rfl, pR_B _ (by decide)⟩ | exact ⟨rfl, uR_B (by decide) (by decide)⟩), Or.inr rfl, Or.inr trivial, Or.inr trivial, Or.inr trivial, Or.inr trivial, Or.inr trivial, Or.inr trivial, Or.inr trivial, Or.inr trivial, Or.inr trivial, Or.inr trivial, Or.inr trivial, Or.inr trivial, Or.inr trivial, Or.inr trivial, Or.inr trivial, Or.inr trivial, Or.inr trivial, Or.inr trivial, Or.inr trivial, Or.inr trivial, trivial⟩, rfl, rfl, rfl, Nat.le_of_ble_eq_true rfl⟩ rfl rfl dX1_turned_11 (fun r_11 w_11 hp => ?_) (fun _ _ h => h.elim)
    obtain ⟨rfl, rfl⟩ := hp
    refine z_weq (w' := [zPl _ _, zO _ [zr _ _, zr _ _, zr _ _, zr _ _, zr _ _, zi _, zi _, zr _ _, zr _ _], zH, zH, zH, zH, zH, zH, zH, zH, zH, zH, zH, zH, zH, zH, zH, zH, zH, zH, zH, zH]) rfl ?_
    refine z_seq (S' := zi _ :: _) rfl ?_
    refine z_if_neB F (tgt := 19) dX1_turned_14 (by decide) (fun c_14 => ?_) (fun c_14 => ?_)
    · refine z_new F 22 [zi 0, zi 0, zi 0] zC9 q373 q374 q132 (fun _ j hj => by match j, hj with | 0, _ => rfl | 1, _ => rfl | 2, _ => rfl) rfl (Nat.le_of_ble_eq_true rfl) (Nat.le_of_ble_eq_true rfl) ⟨(by first | exact pR_N _ (Nat.le_of_ble_eq_true rfl) | exact uR_N (Nat.le_of_ble_eq_true rfl) (Nat.le_of_ble_eq_true rfl)), rfl, trivial, trivial, trivial, trivial, trivial, trivial, trivial, trivial, trivial, trivial, trivial, trivial, trivial, trivial, trivial, trivial, trivial, trivial, trivial, trivial, trivial⟩ rfl rfl ⟨by omega, by omega⟩ dX1_turned_19 ?_
      refine z_weq (w' := [_, _, _, _, _, _, _, _, _, _, _, _, _, _, _, _, _, _, _, _, _, _, _]) rfl ?_
      refine z_dup F dX1_turned_22 rfl ?_
      refine z_iload_n F dX1_turned_23 rfl ?_
      refine z_iload_n F dX1_turned_24 rfl ?_
      refine z_iload F dX1_turned_25 rfl ?_
      refine z_callI F (c_ginit kd a b) 3 rfl (lw_meth q377) q132 q375 q376 rfl (by decide +kernel) ⟨Nat.le_of_ble_eq_true rfl, Nat.le_of_ble_eq_true rfl⟩ ⟨by omega, by omega⟩ [0, 22] 23 ⟨rfl, rfl, rfl, ⟨Or.inl rfl, Or.inr rfl, trivial⟩⟩ (fun h => nomatch h) (Nat.le_of_ble_eq_true rfl) ⟨⟨Or.inr (by first | exact ⟨rfl, pR_B _ (by decide)⟩ | exact ⟨rfl, uR_B (by decide) (by decide)⟩), Or.inr rfl, Or.inr trivial, Or.inr trivial, Or.inr trivial, Or.inr trivial, Or.inr trivial, Or.inr trivial, Or.inr trivial, Or.inr trivial, Or.inr trivial, Or.inr trivial, Or.inr trivial, Or.inr trivial, Or.inr trivial, Or.inr trivial, Or.inr trivial, Or.inr trivial, Or.inr trivial, Or.inr trivial, Or.inr trivial, Or.inr trivial, Or.inl rfl, trivial⟩, rfl, rfl, rfl, Nat.le_of_ble_eq_true rfl⟩ rfl rfl dX1_turned_27 (fun r_27 w_27 hp => ?_) (fun _ _ h => h.elim)
      obtain ⟨rfl, rfl⟩ := hp
      refine z_weq (w' := [zPl _ _, zO _ [zr _ _, zr _ _, zr _ _, zr _ _, zr _ _, zi _, zi _, zr _ _, zr _ _], zH, zH, zH, zH, zH, zH, zH, zH, zH, zH, zH, zH, zH, zH, zH, zH, zH, zH, zH, zH, zO _ [zi _, zi _, zi _]]) rfl ?_
      refine z_seq (S' := [_]) rfl ?_
      refine z_astore F dX1_turned_30 (Nat.le_of_ble_eq_true rfl) ?_
      refine z_leq (L' := [_, _, _, _, _, _, _]) rfl ?_
      refine z_aload F dX1_turned_32 rfl ?_
      refine z_iload F dX1_turned_34 rfl ?_
      refine z_callV F (c_gam kd a b m hg) 1 rfl (lw_V q390 q391 q392 q132 q393) (by decide +kernel) ⟨Nat.le_of_ble_eq_true rfl, Nat.le_of_ble_eq_true rfl⟩ ⟨by omega, by omega⟩ [0, 22] 23 ⟨rfl, rfl, rfl, ⟨Or.inl rfl, Or.inr rfl, trivial⟩⟩ (fun h => nomatch h) (Nat.le_of_ble_eq_true rfl) ⟨⟨Or.inr (by first | exact ⟨rfl, pR_B _ (by decide)⟩ | exact ⟨rfl, uR_B (by decide) (by decide)⟩), Or.inr rfl, Or.inr trivial, Or.inr trivial, Or.inr trivial, Or.inr trivial, Or.inr trivial, Or.inr trivial, Or.inr trivial, Or.inr trivial, Or.inr trivial, Or.inr trivial, Or.inr trivial, Or.inr trivial, Or.inr trivial, Or.inr trivial, Or.inr trivial, Or.inr trivial, Or.inr trivial, Or.inr trivial, Or.inr trivial, Or.inr trivial, Or.inl rfl, trivial⟩, rfl, rfl, rfl, Nat.le_of_ble_eq_true rfl⟩ rfl zC9 rfl rfl dX1_turned_36 (fun r_36 w_36 hp => ?_) (fun _ _ h => h.elim)
      obtain ⟨rfl, rfl⟩ := hp
      refine z_weq (w' := [zPl _ _, zO _ [zr _ _, zr _ _, zr _ _, zr _ _, zr _ _, zi _, zi _, zr _ _, zr _ _], zH, zH, zH, zH, zH, zH, zH, zH, zH, zH, zH, zH, zH, zH, zH, zH, zH, zH, zH, zH, zO _ [zi _, zi _, zi _]]) rfl ?_
      refine z_seq (S' := zi _ :: _) rfl ?_
      refine z_if_neB F (tgt := 44) dX1_turned_39 (by decide) (fun c_39 => ?_) (fun c_39 => ?_)
      · refine z_aload_n F dX1_turned_44 rfl ?_
        refine z_get F zC1 (f := 0) rfl (Nat.le_of_ble_eq_true rfl) q313 rfl dX1_turned_45 ?_
        refine z_iload_n F dX1_turned_48 rfl ?_
        refine z_aload F dX1_turned_49 rfl ?_
        refine z_iload F dX1_turned_51 rfl ?_
        refine z_callV F (c_gnet kd a b m hg) 1 rfl (lw_V q408 q409 q410 q132 q411) (by decide +kernel) ⟨Nat.le_of_ble_eq_true rfl, Nat.le_of_ble_eq_true rfl⟩ ⟨by omega, by omega⟩ [0, 22] 23 ⟨rfl, rfl, rfl, ⟨Or.inl rfl, Or.inr rfl, trivial⟩⟩ (fun h => nomatch h) (Nat.le_of_ble_eq_true rfl) ⟨⟨Or.inr (by first | exact ⟨rfl, pR_B _ (by decide)⟩ | exact ⟨rfl, uR_B (by decide) (by decide)⟩), Or.inr rfl, Or.inr trivial, Or.inr trivial, Or.inr trivial, Or.inr trivial, Or.inr trivial, Or.inr trivial, Or.inr trivial, Or.inr trivial, Or.inr trivial, Or.inr trivial, Or.inr trivial, Or.inr trivial, Or.inr trivial, Or.inr trivial, Or.inr trivial, Or.inr trivial, Or.inr trivial, Or.inr trivial, Or.inr trivial, Or.inr trivial, Or.inl rfl, trivial⟩, rfl, rfl, rfl, Nat.le_of_ble_eq_true rfl⟩ rfl zC9 rfl rfl dX1_turned_53 (fun r_53 w_53 hp => ?_) (fun _ _ h => h.elim)
        obtain ⟨rfl, rfl⟩ := hp
        refine z_weq (w' := [zPl _ _, zO _ [zr _ _, zr _ _, zr _ _, zr _ _, zr _ _, zi _, zi _, zr _ _, zr _ _], zH, zH, zH, zH, zH, zH, zH, zH, zH, zH, zH, zH, zH, zH, zH, zH, zH, zH, zH, zH, zO _ [zi _, zi _, zi _], zO _ [zi _, zi _, zr _ _], zAi 0 24 _]) rfl ?_
        refine z_seq (S' := zr _ _ :: _) rfl ?_
        refine z_aastP F (by omega) rfl dX1_turned_56 ?_
        refine z_weq (w' := [_, _, _, _, _, _, _, _, _, _, _, _, _, _, _, _, _, _, _, _, _, _, _, _, _]) rfl ?_
        refine z_loc [some _, some _, some _, some _, some _, some _, none] ⟨rfl, rfl, rfl, rfl, rfl, rfl, trivial⟩ ?_
        refine z_unfocus F rfl j 23 24 22 hj zput_self rfl rfl (Nat.le_of_ble_eq_true rfl) (Nat.le_of_ble_eq_true rfl) (Nat.le_of_ble_eq_true rfl) (Nat.le_of_ble_eq_true rfl) [zO _ [zr _ _, zr _ _, zr _ _, zr _ _, zr _ _, zi _, zi _, zr _ _, zr _ _], zH, zH, zH, zH, zH, zH, zH, zH, zH, zH, zH, zH, zH, zH, zH, zH, zH, zH, zH, zH] rfl ⟨rfl, trivial, trivial, trivial, trivial, trivial, trivial, trivial, trivial, trivial, trivial, trivial, trivial, trivial, trivial, trivial, trivial, trivial, trivial, trivial, trivial, trivial⟩ uOK rfl rfl ?_
        refine z_weq (w' := zPl (pR (zput P j (some _))) (zput P j (some _)) :: _) (congrArg (fun z => z :: _) uPl1) ?_
        refine z_iconstB F true dX1_turned_57 rfl ?_
        exact z_zret F E rfl rfl dX1_turned_58 (by omega) (by omega) (⟨rfl, rfl⟩)
      · rw [hm] at c_39; cases c_39
    · rw [grB_n hg] at c_14; cases c_14
theorem c_misGroup (k a b : Int32) : zCtr yX6_isGroup cX6_isGroup 3 (some .boolean) 0 0 0 [zi k, zi a, zi b] [zH] (fun r w => r = some (zi (bI (grB k a b))) ∧ w = [zH]) zNx := by
  refine z_start (by decide) [some (zi k), some (zi a), some (zi b)] rfl (fun _ => Nat.le_of_ble_eq_true rfl) (fun _ => rfl) (fun X F E hno hin => ?_)
  have kin : k = nI 0 ∨ k = nI 1 → inB k (nI 0) (nI 1) = true := by rintro (rfl | rfl) <;> decide
  have ain : ¬ a < nI 1 → ¬ nI 24 < a → inB a (nI 1) (nI 24) = true := fun q1 q2 => by unfold inB; rw [decide_eq_true_eq]; exact ⟨q1, q2⟩
  have bin : ¬ b < nI 1 → ¬ nI 24 < b → inB b (nI 1) (nI 24) = true := fun q1 q2 => by unfold inB; rw [decide_eq_true_eq]; exact ⟨q1, q2⟩
  have yes : (k = nI 0 ∨ k = nI 1) → ¬ a < nI 1 → ¬ b < nI 1 → ¬ nI 24 < a → ¬ nI 24 < b → ¬ nI 24 < a * b → (k = nI 0 ∨ b = nI 2) → grB k a b = true := fun q1 q2 q3 q4 q5 q6 q7 => grB_t (kin q1) (ain q2 q4) (bin q3 q5) q6 q7
  have no1 : ¬ k = nI 0 → ¬ k = nI 1 → grB k a b = false := fun q1 q2 => by
    refine grB_f (Or.inl ?_)
    cases e : inB k (nI 0) (nI 1) with
    | false => rfl
    | true =>
      obtain ⟨i, -, i2, rfl⟩ := inB_of (by omega) (by omega) e
      have : i = 0 ∨ i = 1 := by omega
      rcases this with rfl | rfl
      · exact absurd rfl q1
      · exact absurd rfl q2
  have no2 : a < nI 1 ∨ nI 24 < a → grB k a b = false := fun q => grB_f (Or.inr (Or.inl (by
    unfold inB; rw [decide_eq_false_iff_not]; rintro ⟨z1, z2⟩; exact q.elim z1 z2)))
  have no3 : b < nI 1 ∨ nI 24 < b → grB k a b = false := fun q => grB_f (Or.inr (Or.inr (Or.inl (by
    unfold inB; rw [decide_eq_false_iff_not]; rintro ⟨z1, z2⟩; exact q.elim z1 z2))))
  refine z_iload_n F dX6_isGroup_0 rfl ?_
  refine z_if_eq F (tgt := 9) dX6_isGroup_1 (by decide) (fun c_1 => ?_) (fun c_1 => ?_)
  · refine z_iload_n F dX6_isGroup_9 rfl ?_
    refine z_iconst F (nI 1) dX6_isGroup_10 rfl ?_
    refine z_icmp_lt F (tgt := 52) dX6_isGroup_11 (by decide) (fun c_11 => ?_) (fun c_11 => ?_)
    · refine z_iconstB F false dX6_isGroup_52 rfl ?_
      exact z_zret F E rfl (bI_nar _) dX6_isGroup_53 (by omega) (by omega) (⟨by rw [no2 (Or.inl c_11)], rfl⟩)
    · refine z_iload_n F dX6_isGroup_14 rfl ?_
      refine z_iconst F (nI 1) dX6_isGroup_15 rfl ?_
      refine z_icmp_lt F (tgt := 52) dX6_isGroup_16 (by decide) (fun c_16 => ?_) (fun c_16 => ?_)
      · refine z_iconstB F false dX6_isGroup_52 rfl ?_
        exact z_zret F E rfl (bI_nar _) dX6_isGroup_53 (by omega) (by omega) (⟨by rw [no3 (Or.inl c_16)], rfl⟩)
      · refine z_iload_n F dX6_isGroup_19 rfl ?_
        refine z_bipush F (nI 24) dX6_isGroup_20 rfl ?_
        refine z_icmp_gt F (tgt := 52) dX6_isGroup_22 (by decide) (fun c_22 => ?_) (fun c_22 => ?_)
        · refine z_iconstB F false dX6_isGroup_52 rfl ?_
          exact z_zret F E rfl (bI_nar _) dX6_isGroup_53 (by omega) (by omega) (⟨by rw [no2 (Or.inr c_22)], rfl⟩)
        · refine z_iload_n F dX6_isGroup_25 rfl ?_
          refine z_bipush F (nI 24) dX6_isGroup_26 rfl ?_
          refine z_icmp_gt F (tgt := 52) dX6_isGroup_28 (by decide) (fun c_28 => ?_) (fun c_28 => ?_)
          · refine z_iconstB F false dX6_isGroup_52 rfl ?_
            exact z_zret F E rfl (bI_nar _) dX6_isGroup_53 (by omega) (by omega) (⟨by rw [no3 (Or.inr c_28)], rfl⟩)
          · refine z_iload_n F dX6_isGroup_31 rfl ?_
            refine z_iload_n F dX6_isGroup_32 rfl ?_
            refine z_imul F dX6_isGroup_33 ?_
            refine z_bipush F (nI 24) dX6_isGroup_34 rfl ?_
            refine z_icmp_gt F (tgt := 52) dX6_isGroup_36 (by decide) (fun c_36 => ?_) (fun c_36 => ?_)
            · refine z_iconstB F false dX6_isGroup_52 rfl ?_
              exact z_zret F E rfl (bI_nar _) dX6_isGroup_53 (by omega) (by omega) (⟨by rw [grB_f (Or.inr (Or.inr (Or.inr (Or.inl c_36))))], rfl⟩)
            · refine z_iload_n F dX6_isGroup_39 rfl ?_
              refine z_if_eq F (tgt := 48) dX6_isGroup_40 (by decide) (fun c_40 => ?_) (fun c_40 => ?_)
              · refine z_iconstB F true dX6_isGroup_48 rfl ?_
                refine z_goto F (tgt := 53) dX6_isGroup_49 (by decide) ?_
                exact z_zret F E rfl (bI_nar _) dX6_isGroup_53 (by omega) (by omega) (⟨by rw [yes (Or.inl c_40) c_11 c_16 c_22 c_28 c_36 (Or.inl c_40)], rfl⟩)
              · refine z_iload_n F dX6_isGroup_43 rfl ?_
                refine z_iconst F (nI 2) dX6_isGroup_44 rfl ?_
                refine z_icmp_ne F (tgt := 52) dX6_isGroup_45 (by decide) (fun c_45 => ?_) (fun c_45 => ?_)
                · refine z_iconstB F false dX6_isGroup_52 rfl ?_
                  exact z_zret F E rfl (bI_nar _) dX6_isGroup_53 (by omega) (by omega) (⟨by rw [grB_f (Or.inr (Or.inr (Or.inr (Or.inr ⟨c_40, c_45⟩))))], rfl⟩)
                · refine z_iconstB F true dX6_isGroup_48 rfl ?_
                  refine z_goto F (tgt := 53) dX6_isGroup_49 (by decide) ?_
                  exact z_zret F E rfl (bI_nar _) dX6_isGroup_53 (by omega) (by omega) (⟨by rw [yes (by first | exact Or.inl c_1 | exact Or.inr c_6) c_11 c_16 c_22 c_28 c_36 (Or.inr c_45)], rfl⟩)
  · refine z_iload_n F dX6_isGroup_4 rfl ?_
    refine z_iconst F (nI 1) dX6_isGroup_5 rfl ?_
    refine z_icmp_ne F (tgt := 52) dX6_isGroup_6 (by decide) (fun c_6 => ?_) (fun c_6 => ?_)
    · refine z_iconstB F false dX6_isGroup_52 rfl ?_
      exact z_zret F E rfl (bI_nar _) dX6_isGroup_53 (by omega) (by omega) (⟨by rw [no1 c_1 c_6], rfl⟩)
    · refine z_iload_n F dX6_isGroup_9 rfl ?_
      refine z_iconst F (nI 1) dX6_isGroup_10 rfl ?_
      refine z_icmp_lt F (tgt := 52) dX6_isGroup_11 (by decide) (fun c_11 => ?_) (fun c_11 => ?_)
      · refine z_iconstB F false dX6_isGroup_52 rfl ?_
        exact z_zret F E rfl (bI_nar _) dX6_isGroup_53 (by omega) (by omega) (⟨by rw [no2 (Or.inl c_11)], rfl⟩)
      · refine z_iload_n F dX6_isGroup_14 rfl ?_
        refine z_iconst F (nI 1) dX6_isGroup_15 rfl ?_
        refine z_icmp_lt F (tgt := 52) dX6_isGroup_16 (by decide) (fun c_16 => ?_) (fun c_16 => ?_)
        · refine z_iconstB F false dX6_isGroup_52 rfl ?_
          exact z_zret F E rfl (bI_nar _) dX6_isGroup_53 (by omega) (by omega) (⟨by rw [no3 (Or.inl c_16)], rfl⟩)
        · refine z_iload_n F dX6_isGroup_19 rfl ?_
          refine z_bipush F (nI 24) dX6_isGroup_20 rfl ?_
          refine z_icmp_gt F (tgt := 52) dX6_isGroup_22 (by decide) (fun c_22 => ?_) (fun c_22 => ?_)
          · refine z_iconstB F false dX6_isGroup_52 rfl ?_
            exact z_zret F E rfl (bI_nar _) dX6_isGroup_53 (by omega) (by omega) (⟨by rw [no2 (Or.inr c_22)], rfl⟩)
          · refine z_iload_n F dX6_isGroup_25 rfl ?_
            refine z_bipush F (nI 24) dX6_isGroup_26 rfl ?_
            refine z_icmp_gt F (tgt := 52) dX6_isGroup_28 (by decide) (fun c_28 => ?_) (fun c_28 => ?_)
            · refine z_iconstB F false dX6_isGroup_52 rfl ?_
              exact z_zret F E rfl (bI_nar _) dX6_isGroup_53 (by omega) (by omega) (⟨by rw [no3 (Or.inr c_28)], rfl⟩)
            · refine z_iload_n F dX6_isGroup_31 rfl ?_
              refine z_iload_n F dX6_isGroup_32 rfl ?_
              refine z_imul F dX6_isGroup_33 ?_
              refine z_bipush F (nI 24) dX6_isGroup_34 rfl ?_
              refine z_icmp_gt F (tgt := 52) dX6_isGroup_36 (by decide) (fun c_36 => ?_) (fun c_36 => ?_)
              · refine z_iconstB F false dX6_isGroup_52 rfl ?_
                exact z_zret F E rfl (bI_nar _) dX6_isGroup_53 (by omega) (by omega) (⟨by rw [grB_f (Or.inr (Or.inr (Or.inr (Or.inl c_36))))], rfl⟩)
              · refine z_iload_n F dX6_isGroup_39 rfl ?_
                refine z_if_eq F (tgt := 48) dX6_isGroup_40 (by decide) (fun c_40 => ?_) (fun c_40 => ?_)
                · refine z_iconstB F true dX6_isGroup_48 rfl ?_
                  refine z_goto F (tgt := 53) dX6_isGroup_49 (by decide) ?_
                  exact z_zret F E rfl (bI_nar _) dX6_isGroup_53 (by omega) (by omega) (⟨by rw [yes (Or.inl c_40) c_11 c_16 c_22 c_28 c_36 (Or.inl c_40)], rfl⟩)
                · refine z_iload_n F dX6_isGroup_43 rfl ?_
                  refine z_iconst F (nI 2) dX6_isGroup_44 rfl ?_
                  refine z_icmp_ne F (tgt := 52) dX6_isGroup_45 (by decide) (fun c_45 => ?_) (fun c_45 => ?_)
                  · refine z_iconstB F false dX6_isGroup_52 rfl ?_
                    exact z_zret F E rfl (bI_nar _) dX6_isGroup_53 (by omega) (by omega) (⟨by rw [grB_f (Or.inr (Or.inr (Or.inr (Or.inr ⟨c_40, c_45⟩))))], rfl⟩)
                  · refine z_iconstB F true dX6_isGroup_48 rfl ?_
                    refine z_goto F (tgt := 53) dX6_isGroup_49 (by decide) ?_
                    exact z_zret F E rfl (bI_nar _) dX6_isGroup_53 (by omega) (by omega) (⟨by rw [yes (by first | exact Or.inl c_1 | exact Or.inr c_6) c_11 c_16 c_22 c_28 c_36 (Or.inr c_45)], rfl⟩)
theorem c_mprod (kd a b x s : Nat) (h : grok kd a b) (hx : x < a * b) (hs : s < a * b) : zCtr yX6_product cX6_product 9 (some .int) 0 0 0 [zi (nI kd), zi (nI a), zi (nI b), zi (nI x), zi (nI s)] [zH] (fun r w => r = some (zi (nI (gth kd a b x s))) ∧ w = [zH]) zNx := by
  refine z_start (by decide) [some (zi (nI kd)), some (zi (nI a)), some (zi (nI b)), some (zi (nI x)), some (zi (nI s)), none, none, none, none] rfl (fun _ => Nat.le_of_ble_eq_true rfl) (fun _ => rfl) (fun X F E hno hin => ?_)
  obtain ⟨h1, h2, h3, h4, h5⟩ := h
  have ha : a ≤ 24 := Nat.le_trans (Nat.le_mul_of_pos_right a h3) h4
  have hb : b ≤ 24 := Nat.le_trans (Nat.le_mul_of_pos_left b h2) h4
  have hi : x % a < a := Nat.mod_lt _ h2
  have hj : s % a < a := Nat.mod_lt _ h2
  have hf := dm_lt hx
  have hg := dm_lt hs
  have e0 : gth kd a b x s = gi kd a (x % a) (x / a) (s % a) + a * ((x / a + s / a) % b) := rfl
  have z1 : 0 ≤ x / a := Nat.zero_le _
  have z2 : 0 ≤ s / a := Nat.zero_le _
  have z3 : 0 ≤ x % a := Nat.zero_le _
  have z4 : 0 ≤ s % a := Nat.zero_le _
  refine z_iload_n F dX6_product_0 rfl ?_
  refine z_iload_n F dX6_product_1 rfl ?_
  refine z_iremN F (by omega) (by omega) (by omega) dX6_product_2 ?_
  refine z_istore F dX6_product_3 (Nat.le_of_ble_eq_true rfl) ?_
  refine z_leq (L' := [_, _, _, _, _, _, _, _, _]) rfl ?_
  refine z_iload_n F dX6_product_5 rfl ?_
  refine z_iload_n F dX6_product_6 rfl ?_
  refine z_idivN F (by omega) (by omega) (by omega) dX6_product_7 ?_
  refine z_istore F dX6_product_8 (Nat.le_of_ble_eq_true rfl) ?_
  refine z_leq (L' := [_, _, _, _, _, _, _, _, _]) rfl ?_
  refine z_iload F dX6_product_10 rfl ?_
  refine z_iload_n F dX6_product_12 rfl ?_
  refine z_iremN F (by omega) (by omega) (by omega) dX6_product_13 ?_
  refine z_istore F dX6_product_14 (Nat.le_of_ble_eq_true rfl) ?_
  refine z_leq (L' := [_, _, _, _, _, _, _, _, _]) rfl ?_
  refine z_iload F dX6_product_16 rfl ?_
  refine z_iload_n F dX6_product_18 rfl ?_
  refine z_idivN F (by omega) (by omega) (by omega) dX6_product_19 ?_
  refine z_istore F dX6_product_20 (Nat.le_of_ble_eq_true rfl) ?_
  refine z_leq (L' := [_, _, _, _, _, _, _, _, _]) rfl ?_
  refine z_iload_n F dX6_product_22 rfl ?_
  refine z_if_neN F (by omega) (tgt := 44) dX6_product_23 (by decide) (fun c_23 => ?_) (fun c_23 => ?_)
  · refine z_iload F dX6_product_44 rfl ?_
    refine z_if_neN F (by omega) (tgt := 57) dX6_product_46 (by decide) (fun c_46 => ?_) (fun c_46 => ?_)
    · refine z_iload F dX6_product_57 rfl ?_
      refine z_iload F dX6_product_59 rfl ?_
      refine z_isub F dX6_product_61 ?_
      refine z_iload_n F dX6_product_62 rfl ?_
      refine z_iadd F dX6_product_63 ?_
      refine z_ieq (nI_sa (by omega)) ?_
      refine z_iload_n F dX6_product_64 rfl ?_
      refine z_iremN F (by omega) (by omega) (by omega) dX6_product_65 ?_
      refine z_iload_n F dX6_product_66 rfl ?_
      refine z_iload F dX6_product_67 rfl ?_
      refine z_iload F dX6_product_69 rfl ?_
      refine z_iaddN F dX6_product_71 ?_
      refine z_iconst F (nI 2) dX6_product_72 rfl ?_
      refine z_iremN F (by omega) (by omega) (by omega) dX6_product_73 ?_
      refine z_imulN F dX6_product_74 ?_
      refine z_iaddN F dX6_product_75 ?_
      exact z_iret F E rfl dX6_product_76 (by omega) (by omega) (⟨by rw [e0, gi, if_neg (show ¬ kd = 0 by omega), if_neg (show ¬ x / a = 0 by omega), h5 (by omega)], rfl⟩)
    · refine z_iload F dX6_product_49 rfl ?_
      refine z_iload F dX6_product_51 rfl ?_
      refine z_iaddN F dX6_product_53 ?_
      refine z_goto F (tgt := 64) dX6_product_54 (by decide) ?_
      refine z_iload_n F dX6_product_64 rfl ?_
      refine z_iremN F (by omega) (by omega) (by omega) dX6_product_65 ?_
      refine z_iload_n F dX6_product_66 rfl ?_
      refine z_iload F dX6_product_67 rfl ?_
      refine z_iload F dX6_product_69 rfl ?_
      refine z_iaddN F dX6_product_71 ?_
      refine z_iconst F (nI 2) dX6_product_72 rfl ?_
      refine z_iremN F (by omega) (by omega) (by omega) dX6_product_73 ?_
      refine z_imulN F dX6_product_74 ?_
      refine z_iaddN F dX6_product_75 ?_
      exact z_iret F E rfl dX6_product_76 (by omega) (by omega) (⟨by rw [e0, gi, if_neg (show ¬ kd = 0 by omega), if_pos (show x / a = 0 by omega), h5 (by omega)], rfl⟩)
  · refine z_iload F dX6_product_26 rfl ?_
    refine z_iload F dX6_product_28 rfl ?_
    refine z_iaddN F dX6_product_30 ?_
    refine z_iload_n F dX6_product_31 rfl ?_
    refine z_iremN F (by omega) (by omega) (by omega) dX6_product_32 ?_
    refine z_iload_n F dX6_product_33 rfl ?_
    refine z_iload F dX6_product_34 rfl ?_
    refine z_iload F dX6_product_36 rfl ?_
    refine z_iaddN F dX6_product_38 ?_
    refine z_iload_n F dX6_product_39 rfl ?_
    refine z_iremN F (by omega) (by omega) (by omega) dX6_product_40 ?_
    refine z_imulN F dX6_product_41 ?_
    refine z_iaddN F dX6_product_42 ?_
    exact z_iret F E rfl dX6_product_43 (by omega) (by omega) (⟨by rw [e0, gi, if_pos (show kd = 0 by omega)], rfl⟩)
theorem c_mopp (kd a b s : Nat) (h : grok kd a b) (hs : s < a * b) : zCtr yX6_opposite cX6_opposite 5 (some .int) 1 0 0 [zi (nI kd), zi (nI a), zi (nI b), zi (nI s)] [zH] (fun r w => r = some (zi (nI (gop kd a b s))) ∧ w = [zH]) zNx := by
  refine z_start (by decide) [some (zi (nI kd)), some (zi (nI a)), some (zi (nI b)), some (zi (nI s)), none] rfl (fun _ => Nat.le_of_ble_eq_true rfl) (fun _ => rfl) (fun X F E hno hin => ?_)
  have h4 := h.2.2.2.1
  have hol := gop_lt h hs
  have loop : ∀ (m o : Nat), gop kd a b s - o < m → o ≤ gop kd a b s → Z X [some (zi (nI kd)), some (zi (nI a)), some (zi (nI b)), some (zi (nI s)), some (zi (nI o))] [] [zH] 0 0 3 := by
    intro m
    induction m with
    | zero => intro o hm; omega
    | succ m ih =>
      intro o hm ho
      have hl := gth_lt (x := s) (s := o) h
      refine z_iload_n F dX6_opposite_3 rfl ?_
      refine z_iload_n F dX6_opposite_4 rfl ?_
      refine z_iload_n F dX6_opposite_5 rfl ?_
      refine z_iload_n F dX6_opposite_6 rfl ?_
      refine z_iload F dX6_opposite_7 rfl ?_
      refine z_callS F (c_mprod kd a b s o h hs (by omega)) 5 rfl (lw_S q1845 q1846 q117 q1847) (by decide +kernel) ⟨Nat.le_of_ble_eq_true rfl, Nat.le_of_ble_eq_true rfl⟩ ⟨by omega, by omega⟩ [0] 1 ⟨rfl, rfl, rfl, ⟨Or.inl rfl, trivial⟩⟩ (fun h => nomatch h) (Nat.le_of_ble_eq_true rfl) ⟨⟨Or.inr trivial, trivial⟩, rfl, rfl, rfl, Nat.le_of_ble_eq_true rfl⟩ rfl rfl dX6_opposite_9 (fun r_9 w_9 hp => ?_) (fun _ _ h => h.elim)
      obtain ⟨rfl, rfl⟩ := hp
      refine z_weq (w' := [zH]) rfl ?_
      refine z_seq (S' := zi _ :: _) rfl ?_
      refine z_if_eqN F (by omega) (tgt := 21) dX6_opposite_12 (by decide) (fun c_12 => ?_) (fun c_12 => ?_)
      · refine z_iload F dX6_opposite_21 rfl ?_
        exact z_iret F E rfl dX6_opposite_23 (by omega) (by omega) (⟨by rw [gth_opU h hs (by omega) c_12], rfl⟩)
      · have hne : o ≠ gop kd a b s := fun z => c_12 (by rw [z]; exact gth_op0 h hs)
        refine z_iincN F 1 dX6_opposite_15 rfl rfl ?_
        refine z_leq (L' := [_, _, _, _, _]) rfl ?_
        refine z_goto F (tgt := 3) dX6_opposite_18 (by decide) ?_
        exact ih (o + 1) (by omega) (by omega)
  refine z_iconst F (nI 0) dX6_opposite_0 rfl ?_
  refine z_istore F dX6_opposite_1 (Nat.le_of_ble_eq_true rfl) ?_
  refine z_leq (L' := [_, _, _, _, _]) rfl ?_
  exact loop _ 0 (Nat.lt_succ_self _) (Nat.zero_le _)
theorem c_mam (kd a b : Nat) (m : Int32) (h : grok kd a b) : zCtr yX6_areMoves cX6_areMoves 6 (some .boolean) 2 0 0 [zi (nI kd), zi (nI a), zi (nI b), zi m] [zH] (fun r w => r = some (zi (bI (amv kd a b m))) ∧ w = [zH]) zNx := by
  refine z_start (by decide) [some (zi (nI kd)), some (zi (nI a)), some (zi (nI b)), some (zi m), none, none] rfl (fun _ => Nat.le_of_ble_eq_true rfl) (fun _ => rfl) (fun X F E hno hin => ?_)
  have h4 := h.2.2.2.1
  have hp8 := pc32_le m
  have loop : ¬ m < 0 → m >>> (nI (a * b) &&& 31) = 0 → bt m 0 = false → pc32 m ≤ 8 → ∀ (u s : Nat), a * b - s < u → 1 ≤ s → s ≤ a * b → Z X [some (zi (nI kd)), some (zi (nI a)), some (zi (nI b)), some (zi m), some (zi (bI (amk kd a b m s))), some (zi (nI s))] [] [zH] 0 0 36 := by
    intro q1 q2 q3 q4 u
    induction u with
    | zero => intro s hm; omega
    | succ u ih =>
      intro s hm h1 hs
      have hol : s < a * b → gop kd a b s < a * b := fun q => gop_lt h q
      have i1 : s < a * b → _ := fun q => ih (s + 1) (by omega) (by omega) q
      rw [amk, decide_eq_true h1, Bool.true_and] at i1
      refine z_iload F dX6_areMoves_36 rfl ?_
      refine z_iload_n F dX6_areMoves_38 rfl ?_
      refine z_iload_n F dX6_areMoves_39 rfl ?_
      refine z_imulN F dX6_areMoves_40 ?_
      refine z_icmp_geN F (by omega) (by omega) (tgt := 88) dX6_areMoves_41 (by decide) (fun c_41 => ?_) (fun c_41 => ?_)
      · refine z_iload F dX6_areMoves_88 rfl ?_
        exact z_zret F E rfl (bI_nar _) dX6_areMoves_90 (by omega) (by omega) (⟨by
  have e : s = a * b := by omega
  rw [e]
  unfold amv
  rw [decide_eq_false q1, decide_eq_true q2, q3, decide_eq_true q4]; rfl, rfl⟩)
      · have hol := hol (by omega)
        have i1 := i1 (by omega)
        refine z_iload_n F dX6_areMoves_44 rfl ?_
        refine z_iload F dX6_areMoves_45 rfl ?_
        refine z_ishr F dX6_areMoves_47 ?_
        refine z_iconst F (nI 1) dX6_areMoves_48 rfl ?_
        refine z_iandB F (by omega) dX6_areMoves_49 ?_
        refine z_iconst F (nI 1) dX6_areMoves_50 rfl ?_
        refine z_icmp_neB F (tgt := 82) dX6_areMoves_51 (by decide) (fun c_51 => ?_) (fun c_51 => ?_)
        · refine z_iincN F 1 dX6_areMoves_82 rfl rfl ?_
          refine z_leq (L' := [_, _, _, _, _, _]) rfl ?_
          refine z_goto F (tgt := 36) dX6_areMoves_85 (by decide) ?_
          rw [c_51, Bool.not_false, Bool.true_or, Bool.and_true] at i1
          exact i1
        · refine z_iload F dX6_areMoves_54 rfl ?_
          refine z_if_eqB F (tgt := 79) dX6_areMoves_56 (by decide) (fun c_56 => ?_) (fun c_56 => ?_)
          · refine z_iconstB F false dX6_areMoves_79 rfl ?_
            refine z_istore F dX6_areMoves_80 (Nat.le_of_ble_eq_true rfl) ?_
            refine z_leq (L' := [_, _, _, _, _, _]) rfl ?_
            refine z_iincN F 1 dX6_areMoves_82 rfl rfl ?_
            refine z_leq (L' := [_, _, _, _, _, _]) rfl ?_
            refine z_goto F (tgt := 36) dX6_areMoves_85 (by decide) ?_
            rw [c_56, Bool.false_and] at i1
            exact i1
          · refine z_iload_n F dX6_areMoves_59 rfl ?_
            refine z_iload_n F dX6_areMoves_60 rfl ?_
            refine z_iload_n F dX6_areMoves_61 rfl ?_
            refine z_iload_n F dX6_areMoves_62 rfl ?_
            refine z_iload F dX6_areMoves_63 rfl ?_
            refine z_callS F (c_mopp kd a b s h (by omega)) 4 rfl (lw_S q1842 q1843 q117 q1844) (by decide +kernel) ⟨Nat.le_of_ble_eq_true rfl, Nat.le_of_ble_eq_true rfl⟩ ⟨by omega, by omega⟩ [0] 1 ⟨rfl, rfl, rfl, ⟨Or.inl rfl, trivial⟩⟩ (fun h => nomatch h) (Nat.le_of_ble_eq_true rfl) ⟨⟨Or.inr trivial, trivial⟩, rfl, rfl, rfl, Nat.le_of_ble_eq_true rfl⟩ rfl rfl dX6_areMoves_65 (fun r_65 w_65 hp => ?_) (fun _ _ h => h.elim)
            obtain ⟨rfl, rfl⟩ := hp
            refine z_weq (w' := [zH]) rfl ?_
            refine z_seq (S' := zi _ :: _) rfl ?_
            refine z_ishr F dX6_areMoves_68 ?_
            refine z_iconst F (nI 1) dX6_areMoves_69 rfl ?_
            refine z_iandB F (by omega) dX6_areMoves_70 ?_
            refine z_iconst F (nI 1) dX6_areMoves_71 rfl ?_
            refine z_icmp_neB F (tgt := 79) dX6_areMoves_72 (by decide) (fun c_72 => ?_) (fun c_72 => ?_)
            · refine z_iconstB F false dX6_areMoves_79 rfl ?_
              refine z_istore F dX6_areMoves_80 (Nat.le_of_ble_eq_true rfl) ?_
              refine z_leq (L' := [_, _, _, _, _, _]) rfl ?_
              refine z_iincN F 1 dX6_areMoves_82 rfl rfl ?_
              refine z_leq (L' := [_, _, _, _, _, _]) rfl ?_
              refine z_goto F (tgt := 36) dX6_areMoves_85 (by decide) ?_
              rw [c_51, c_72, Bool.not_true, Bool.false_or, Bool.and_false] at i1
              exact i1
            · refine z_iconstB F true dX6_areMoves_75 rfl ?_
              refine z_goto F (tgt := 80) dX6_areMoves_76 (by decide) ?_
              refine z_istore F dX6_areMoves_80 (Nat.le_of_ble_eq_true rfl) ?_
              refine z_leq (L' := [_, _, _, _, _, _]) rfl ?_
              refine z_iincN F 1 dX6_areMoves_82 rfl rfl ?_
              refine z_leq (L' := [_, _, _, _, _, _]) rfl ?_
              refine z_goto F (tgt := 36) dX6_areMoves_85 (by decide) ?_
              rw [c_56, c_51, c_72, Bool.not_true, Bool.false_or, Bool.and_true] at i1
              exact i1
  refine z_iload_n F dX6_areMoves_0 rfl ?_
  refine z_if_lt F (tgt := 28) dX6_areMoves_1 (by decide) (fun c_1 => ?_) (fun c_1 => ?_)
  · refine z_iconstB F false dX6_areMoves_28 rfl ?_
    exact z_zret F E rfl (bI_nar _) dX6_areMoves_29 (by omega) (by omega) (⟨by rw [amv_f (Or.inl c_1)], rfl⟩)
  · refine z_iload_n F dX6_areMoves_4 rfl ?_
    refine z_iconst F (nI 1) dX6_areMoves_5 rfl ?_
    refine z_iand F dX6_areMoves_6 ?_
    refine z_ieq (and1 m) ?_
    refine z_iconst F (nI 1) dX6_areMoves_7 rfl ?_
    refine z_icmp_eqB F (tgt := 28) dX6_areMoves_8 (by decide) (fun c_8 => ?_) (fun c_8 => ?_)
    · refine z_iconstB F false dX6_areMoves_28 rfl ?_
      exact z_zret F E rfl (bI_nar _) dX6_areMoves_29 (by omega) (by omega) (⟨by rw [amv_f (Or.inr (Or.inr (Or.inl c_8)))], rfl⟩)
    · refine z_iload_n F dX6_areMoves_11 rfl ?_
      refine z_iload_n F dX6_areMoves_12 rfl ?_
      refine z_iload_n F dX6_areMoves_13 rfl ?_
      refine z_imulN F dX6_areMoves_14 ?_
      refine z_ishr F dX6_areMoves_15 ?_
      refine z_if_ne F (tgt := 28) dX6_areMoves_16 (by decide) (fun c_16 => ?_) (fun c_16 => ?_)
      · refine z_iconstB F false dX6_areMoves_28 rfl ?_
        exact z_zret F E rfl (bI_nar _) dX6_areMoves_29 (by omega) (by omega) (⟨by rw [amv_f (Or.inr (Or.inl c_16))], rfl⟩)
      · refine z_iload_n F dX6_areMoves_19 rfl ?_
        refine z_callS F (c_bits m) 1 rfl (lw_S q1752 q1753 q117 q1754) (by decide +kernel) ⟨Nat.le_of_ble_eq_true rfl, Nat.le_of_ble_eq_true rfl⟩ ⟨by omega, by omega⟩ [0] 1 ⟨rfl, rfl, rfl, ⟨Or.inl rfl, trivial⟩⟩ (fun h => nomatch h) (Nat.le_of_ble_eq_true rfl) ⟨⟨Or.inr trivial, trivial⟩, rfl, rfl, rfl, Nat.le_of_ble_eq_true rfl⟩ rfl rfl dX6_areMoves_20 (fun r_20 w_20 hp => ?_) (fun _ _ h => h.elim)
        obtain ⟨rfl, rfl⟩ := hp
        refine z_weq (w' := [zH]) rfl ?_
        refine z_seq (S' := zi _ :: _) rfl ?_
        refine z_bipush F (nI 8) dX6_areMoves_23 rfl ?_
        refine z_icmp_leN F (by omega) (by omega) (tgt := 30) dX6_areMoves_25 (by decide) (fun c_25 => ?_) (fun c_25 => ?_)
        · refine z_iconstB F true dX6_areMoves_30 rfl ?_
          refine z_istore F dX6_areMoves_31 (Nat.le_of_ble_eq_true rfl) ?_
          refine z_leq (L' := [_, _, _, _, _, _]) rfl ?_
          refine z_iconst F (nI 1) dX6_areMoves_33 rfl ?_
          refine z_istore F dX6_areMoves_34 (Nat.le_of_ble_eq_true rfl) ?_
          refine z_leq (L' := [_, _, _, _, _, _]) rfl ?_
          have l1 := loop c_1 c_16 c_8 c_25 (a * b + 1) 1 (by have := h.2.1; omega) (by omega) (Nat.mul_pos h.2.1 h.2.2.1)
          rw [show amk kd a b m 1 = true from by rw [amk, amk]; simp] at l1
          exact l1
        · refine z_iconstB F false dX6_areMoves_28 rfl ?_
          exact z_zret F E rfl (bI_nar _) dX6_areMoves_29 (by omega) (by omega) (⟨by rw [amv_f (Or.inr (Or.inr (Or.inr (Or.inl (Nat.not_le.mpr c_25)))))], rfl⟩)
theorem c_mturned_no (F0 : Nat → Int32) (G : Nat → Int64) (A : Nat → Nat → Int32) (B : Nat → Nat → Int64) (s k a b m : Int32) (h : trB s k a b m = false) : zCtr yX6_turned cX6_turned 8 (some .boolean) 3 0 0 [zr 1 0, zi s, zi k, zi a, zi b, zi m] [zH, zG F0 G A B] (fun r w => r = some (zi (bI false)) ∧ w = [zH, zG (upd F0 0 (nI 0)) G A B]) zNx := by
  refine z_start (by decide) [some (zr 1 0), some (zi s), some (zi k), some (zi a), some (zi b), some (zi m), none, none] rfl (fun _ => Nat.le_of_ble_eq_true rfl) (fun _ => rfl) (fun X F E hno hin => ?_)
  refine z_aload_n F dX6_turned_0 rfl ?_
  refine z_iconst F (nI 0) dX6_turned_1 rfl ?_
  refine z_pmi F rfl 0 rfl (Nat.le_of_ble_eq_true rfl) rfl q1480 rfl rfl rfl dX6_turned_2 ?_
  refine z_weq (w' := [_, _]) rfl ?_
  refine z_iload_n F dX6_turned_5 rfl ?_
  refine z_callS F (c_isSlot s) 1 rfl (lw_S q1714 q1715 q117 q1716) (by decide +kernel) ⟨Nat.le_of_ble_eq_true rfl, Nat.le_of_ble_eq_true rfl⟩ ⟨by omega, by omega⟩ [0] 2 ⟨rfl, rfl, rfl, ⟨Or.inl rfl, trivial⟩⟩ (fun h => nomatch h) (Nat.le_of_ble_eq_true rfl) ⟨⟨Or.inr trivial, Or.inr trivial, trivial⟩, rfl, rfl, rfl, Nat.le_of_ble_eq_true rfl⟩ rfl rfl dX6_turned_6 (fun r_6 w_6 hp => ?_) (fun _ _ h => h.elim)
  obtain ⟨rfl, rfl⟩ := hp
  refine z_weq (w' := [zH, zG _ _ _ _]) rfl ?_
  refine z_seq (S' := zi _ :: _) rfl ?_
  refine z_if_eqB F (tgt := 34) dX6_turned_9 (by decide) (fun c_9 => ?_) (fun c_9 => ?_)
  · refine z_iconstB F false dX6_turned_34 rfl ?_
    exact z_zret F E rfl rfl dX6_turned_35 (by omega) (by omega) (⟨rfl, rfl⟩)
  · refine z_iload_n F dX6_turned_12 rfl ?_
    refine z_iload_n F dX6_turned_13 rfl ?_
    refine z_iload F dX6_turned_14 rfl ?_
    refine z_callS F (c_misGroup k a b) 3 rfl (lw_S q1836 q1837 q117 q1838) (by decide +kernel) ⟨Nat.le_of_ble_eq_true rfl, Nat.le_of_ble_eq_true rfl⟩ ⟨by omega, by omega⟩ [0] 2 ⟨rfl, rfl, rfl, ⟨Or.inl rfl, trivial⟩⟩ (fun h => nomatch h) (Nat.le_of_ble_eq_true rfl) ⟨⟨Or.inr trivial, Or.inr trivial, trivial⟩, rfl, rfl, rfl, Nat.le_of_ble_eq_true rfl⟩ rfl rfl dX6_turned_16 (fun r_16 w_16 hp => ?_) (fun _ _ h => h.elim)
    obtain ⟨rfl, rfl⟩ := hp
    refine z_weq (w' := [zH, zG _ _ _ _]) rfl ?_
    refine z_seq (S' := zi _ :: _) rfl ?_
    refine z_if_eqB F (tgt := 34) dX6_turned_19 (by decide) (fun c_19 => ?_) (fun c_19 => ?_)
    · refine z_iconstB F false dX6_turned_34 rfl ?_
      exact z_zret F E rfl rfl dX6_turned_35 (by omega) (by omega) (⟨rfl, rfl⟩)
    · obtain ⟨kd, x, y, rfl, rfl, rfl, hg⟩ := grB_of c_19
      obtain ⟨j, hj, rfl⟩ := slB_of c_9
      refine z_iload_n F dX6_turned_22 rfl ?_
      refine z_iload_n F dX6_turned_23 rfl ?_
      refine z_iload F dX6_turned_24 rfl ?_
      refine z_iload F dX6_turned_26 rfl ?_
      refine z_callS F (c_mam kd x y m hg) 4 rfl (lw_S q1839 q1840 q117 q1841) (by decide +kernel) ⟨Nat.le_of_ble_eq_true rfl, Nat.le_of_ble_eq_true rfl⟩ ⟨by omega, by omega⟩ [0] 2 ⟨rfl, rfl, rfl, ⟨Or.inl rfl, trivial⟩⟩ (fun h => nomatch h) (Nat.le_of_ble_eq_true rfl) ⟨⟨Or.inr trivial, Or.inr trivial, trivial⟩, rfl, rfl, rfl, Nat.le_of_ble_eq_true rfl⟩ rfl rfl dX6_turned_28 (fun r_28 w_28 hp => ?_) (fun _ _ h => h.elim)
      obtain ⟨rfl, rfl⟩ := hp
      refine z_weq (w' := [zH, zG _ _ _ _]) rfl ?_
      refine z_seq (S' := zi _ :: _) rfl ?_
      refine z_if_neB F (tgt := 36) dX6_turned_31 (by decide) (fun c_31 => ?_) (fun c_31 => ?_)
      · rw [trB_n hj hg c_31] at h; cases h
      · refine z_iconstB F false dX6_turned_34 rfl ?_
        exact z_zret F E rfl rfl dX6_turned_35 (by omega) (by omega) (⟨rfl, rfl⟩)
theorem c_mturned_ok (F0 : Nat → Int32) (G : Nat → Int64) (A : Nat → Nat → Int32) (B : Nat → Nat → Int64) (j kd a b : Nat) (m : Int32) (hj : j < 8) (hg : grok kd a b) (hm : amv kd a b m = true) : zCtr yX6_turned cX6_turned 8 (some .boolean) 3 0 0 [zr 1 0, zi (nI j), zi (nI kd), zi (nI a), zi (nI b), zi m] [zH, zG F0 G A B] (fun r w => r = some (zi (bI true)) ∧ ∃ F' A', w = [zH, zG F' G A' B] ∧ F' 0 = nI 0 ∧ frm [0, 4, 5] F0 F' ∧ frm [1, 2, 3, 6] A A' ∧ Slt A' j (a * b) (nI (max 1 (pc32 m))) (tra kd a b m (a * b)) ∧ ∀ i, i < 8 → i ≠ j → SltEq A A' i) zNx := by
  refine z_start (by decide) [some (zr 1 0), some (zi (nI j)), some (zi (nI kd)), some (zi (nI a)), some (zi (nI b)), some (zi m), none, none] rfl (fun _ => Nat.le_of_ble_eq_true rfl) (fun _ => rfl) (fun X F E hno hin => ?_)
  have h4 := hg.2.2.2.1
  have hp8 := pc32_le m
  have rest : ∀ (F1 : Nat → Int32) (A1 : Nat → Nat → Int32), frm [0, 4, 5] F0 F1 → F1 0 = nI 0 → F1 4 = nI (a * b) → F1 5 = nI (max 1 (pc32 m)) → frm [6] A A1 → (∀ k, k < 24 → A1 6 k = nI 0) → Z X [some (zr 1 0), some (zi (nI j)), some (zi (nI kd)), some (zi (nI a)), some (zi (nI b)), some (zi m), none, none] [] [zH, zG F1 G A1 B] 0 0 61 := by
    intro F1 A0 f0 f1 f4 f5 hA0 hz
    have row : ∀ (x : Nat), x < a * b → (∀ A1, frm [6] A A1 → (∀ k, k < 24 → A1 6 k = tra kd a b m (x + 1) k) → Z X [some (zr 1 0), some (zi (nI j)), some (zi (nI kd)), some (zi (nI a)), some (zi (nI b)), some (zi m), some (zi (nI (x + 1))), none] [] [zH, zG F1 G A1 B] 0 0 64) →
        ∀ (u s : Nat) (A1 : Nat → Nat → Int32), a * b - s < u → 1 ≤ s → s ≤ a * b → frm [6] A A1 → (∀ k, k < 24 → A1 6 k = trr kd a b m x (tra kd a b m x) s k) → Z X [some (zr 1 0), some (zi (nI j)), some (zi (nI kd)), some (zi (nI a)), some (zi (nI b)), some (zi m), some (zi (nI x)), some (zi (nI s))] [] [zH, zG F1 G A1 B] 0 0 76 := by
      intro x hx kk u
      induction u with
      | zero => intro s A1 hm; omega
      | succ u ih =>
        intro s A1 hm h1 hs hA hR
        have hl := gth_lt (x := x) (s := s) hg
        refine z_iload F dX6_turned_76 rfl ?_
        refine z_iload_n F dX6_turned_78 rfl ?_
        refine z_iload F dX6_turned_79 rfl ?_
        refine z_imulN F dX6_turned_81 ?_
        refine z_icmp_geN F (by omega) (by omega) (tgt := 119) dX6_turned_82 (by decide) (fun c_82 => ?_) (fun c_82 => ?_)
        · refine z_iincN F 1 dX6_turned_119 rfl rfl ?_
          refine z_leq (L' := [_, _, _, _, _, _, _, _]) rfl ?_
          refine z_goto F (tgt := 64) dX6_turned_122 (by decide) ?_
          rw [show s = a * b by omega] at hR
          refine z_loc _ ?_ (kk A1 hA hR)
          exact ⟨rfl, rfl, rfl, rfl, rfl, rfl, rfl, trivial⟩
        · refine z_iload F dX6_turned_85 rfl ?_
          refine z_iload F dX6_turned_87 rfl ?_
          refine z_ishr F dX6_turned_89 ?_
          refine z_iconst F (nI 1) dX6_turned_90 rfl ?_
          refine z_iandB F (by omega) dX6_turned_91 ?_
          refine z_iconst F (nI 1) dX6_turned_92 rfl ?_
          refine z_icmp_neB F (tgt := 113) dX6_turned_93 (by decide) (fun c_93 => ?_) (fun c_93 => ?_)
          · refine z_iincN F 1 dX6_turned_113 rfl rfl ?_
            refine z_leq (L' := [_, _, _, _, _, _, _, _]) rfl ?_
            refine z_goto F (tgt := 76) dX6_turned_116 (by decide) ?_
            exact ih (s + 1) A1 (by omega) (by omega) (by omega) hA (fun k hk => by rw [trr, if_neg (fun z => by rw [z.2] at c_93; cases c_93)]; exact hR k hk)
          · refine z_aload_n F dX6_turned_96 rfl ?_
            refine z_iload F dX6_turned_97 rfl ?_
            refine z_iload_n F dX6_turned_99 rfl ?_
            refine z_iload_n F dX6_turned_100 rfl ?_
            refine z_iload F dX6_turned_101 rfl ?_
            refine z_iload F dX6_turned_103 rfl ?_
            refine z_iload F dX6_turned_105 rfl ?_
            refine z_callS F (c_mprod kd a b x s hg hx (by omega)) 5 rfl (lw_S q1845 q1846 q117 q1847) (by decide +kernel) ⟨Nat.le_of_ble_eq_true rfl, Nat.le_of_ble_eq_true rfl⟩ ⟨by omega, by omega⟩ [0] 2 ⟨rfl, rfl, rfl, ⟨Or.inl rfl, trivial⟩⟩ (fun h => nomatch h) (Nat.le_of_ble_eq_true rfl) ⟨⟨Or.inr trivial, Or.inr trivial, trivial⟩, rfl, rfl, rfl, Nat.le_of_ble_eq_true rfl⟩ rfl rfl dX6_turned_107 (fun r_107 w_107 hp => ?_) (fun _ _ h => h.elim)
            obtain ⟨rfl, rfl⟩ := hp
            refine z_weq (w' := [zH, zG _ _ _ _]) rfl ?_
            refine z_seq (S' := zi _ :: _) rfl ?_
            refine z_callV F (c_joins _ _ _ _ x (gth kd a b x s) (by omega) (by omega)) 2 rfl (lw_V q1755 q1757 qs47 q117 q1758) (by decide +kernel) ⟨Nat.le_of_ble_eq_true rfl, Nat.le_of_ble_eq_true rfl⟩ ⟨by omega, by omega⟩ [0, 1] 2 ⟨rfl, rfl, rfl, ⟨Or.inl rfl, Or.inr rfl, trivial⟩⟩ (fun h => nomatch h) (Nat.le_of_ble_eq_true rfl) ⟨⟨Or.inr trivial, Or.inl rfl, trivial⟩, rfl, rfl, rfl, Nat.le_of_ble_eq_true rfl⟩ rfl zC6 (zat_G0 rfl) rfl dX6_turned_110 (fun r_110 w_110 hp => ?_) (fun _ _ h => h.elim)
            obtain ⟨rfl, rfl⟩ := hp
            refine z_weq (w' := [zH, zG _ _ _ _]) rfl ?_
            refine z_seq (S' := []) rfl ?_
            refine z_iincN F 1 dX6_turned_113 rfl rfl ?_
            refine z_leq (L' := [_, _, _, _, _, _, _, _]) rfl ?_
            refine z_goto F (tgt := 76) dX6_turned_116 (by decide) ?_
            refine ih (s + 1) _ (by omega) (by omega) (by omega) (frm_fA hA (by decide)) (fun k hk => ?_)
            rw [fA_at, trr, if_pos ⟨h1, c_93⟩]
            exact jn_cong hR (by omega) (by omega) hk
    have rows : ∀ (u x : Nat) (A1 : Nat → Nat → Int32), a * b - x < u → x ≤ a * b → frm [6] A A1 → (∀ k, k < 24 → A1 6 k = tra kd a b m x k) → Z X [some (zr 1 0), some (zi (nI j)), some (zi (nI kd)), some (zi (nI a)), some (zi (nI b)), some (zi m), some (zi (nI x)), none] [] [zH, zG F1 G A1 B] 0 0 64 := by
      intro u
      induction u with
      | zero => intro x A1 hm; omega
      | succ u ih =>
        intro x A1 hm hx hA hR
        refine z_iload F dX6_turned_64 rfl ?_
        refine z_iload_n F dX6_turned_66 rfl ?_
        refine z_iload F dX6_turned_67 rfl ?_
        refine z_imulN F dX6_turned_69 ?_
        refine z_icmp_geN F (by omega) (by omega) (tgt := 125) dX6_turned_70 (by decide) (fun c_70 => ?_) (fun c_70 => ?_)
        · have e : x = a * b := by omega
          subst e
          refine z_aload_n F dX6_turned_125 rfl ?_
          refine z_iload_n F dX6_turned_126 rfl ?_
          refine z_callV F (c_keeps F1 _ A1 _ j (a * b) (nI (max 1 (pc32 m))) (tra kd a b m (a * b)) hj ⟨f4, f5, hR⟩) 1 rfl (lw_V q1724 q1726 qs41 q117 q1727) (by decide +kernel) ⟨Nat.le_of_ble_eq_true rfl, Nat.le_of_ble_eq_true rfl⟩ ⟨by omega, by omega⟩ [0, 1] 2 ⟨rfl, rfl, rfl, ⟨Or.inl rfl, Or.inr rfl, trivial⟩⟩ (fun h => nomatch h) (Nat.le_of_ble_eq_true rfl) ⟨⟨Or.inr trivial, Or.inl rfl, trivial⟩, rfl, rfl, rfl, Nat.le_of_ble_eq_true rfl⟩ rfl zC6 (zat_G0 rfl) rfl dX6_turned_127 (fun r_127 w_127 hp => ?_) (fun _ _ h => h.elim)
          obtain ⟨rfl, A2, rfl, g1, g2, g3⟩ := hp
          refine z_weq (w' := [zH, zG _ _ _ _]) rfl ?_
          refine z_seq (S' := []) rfl ?_
          refine z_iconstB F true dX6_turned_130 rfl ?_
          exact z_zret F E rfl rfl dX6_turned_131 (by omega) (by omega) (⟨rfl, F1, A2, rfl, f1, f0, hA.tr g1 (by decide) (by decide), g2, fun i hi hne => (SltEq.of6 hA (by decide)).tr (g3 i hi hne)⟩)
        · refine z_iconst F (nI 1) dX6_turned_73 rfl ?_
          refine z_istore F dX6_turned_74 (Nat.le_of_ble_eq_true rfl) ?_
          refine z_leq (L' := [_, _, _, _, _, _, _, _]) rfl ?_
          exact row x (by omega) (fun A2 q1 q2 => ih (x + 1) A2 (by omega) (by omega) q1 q2) (a * b + 1) 1 A1 (by omega) (by omega) (by omega) hA (fun k hk => by rw [trr, if_neg (by omega)]; exact hR k hk)
    refine z_iconst F (nI 0) dX6_turned_61 rfl ?_
    refine z_istore F dX6_turned_62 (Nat.le_of_ble_eq_true rfl) ?_
    refine z_leq (L' := [_, _, _, _, _, _, _, _]) rfl ?_
    exact rows (a * b + 1) 0 A0 (by omega) (by omega) hA0 hz
  refine z_aload_n F dX6_turned_0 rfl ?_
  refine z_iconst F (nI 0) dX6_turned_1 rfl ?_
  refine z_pmi F rfl 0 rfl (Nat.le_of_ble_eq_true rfl) rfl q1480 rfl rfl rfl dX6_turned_2 ?_
  refine z_weq (w' := [_, _]) rfl ?_
  refine z_iload_n F dX6_turned_5 rfl ?_
  refine z_callS F (c_isSlot (nI j)) 1 rfl (lw_S q1714 q1715 q117 q1716) (by decide +kernel) ⟨Nat.le_of_ble_eq_true rfl, Nat.le_of_ble_eq_true rfl⟩ ⟨by omega, by omega⟩ [0] 2 ⟨rfl, rfl, rfl, ⟨Or.inl rfl, trivial⟩⟩ (fun h => nomatch h) (Nat.le_of_ble_eq_true rfl) ⟨⟨Or.inr trivial, Or.inr trivial, trivial⟩, rfl, rfl, rfl, Nat.le_of_ble_eq_true rfl⟩ rfl rfl dX6_turned_6 (fun r_6 w_6 hp => ?_) (fun _ _ h => h.elim)
  obtain ⟨rfl, rfl⟩ := hp
  refine z_weq (w' := [zH, zG _ _ _ _]) rfl ?_
  refine z_seq (S' := zi _ :: _) rfl ?_
  refine z_if_eqB F (tgt := 34) dX6_turned_9 (by decide) (fun c_9 => ?_) (fun c_9 => ?_)
  · rw [slB_n hj] at c_9; cases c_9
  · refine z_iload_n F dX6_turned_12 rfl ?_
    refine z_iload_n F dX6_turned_13 rfl ?_
    refine z_iload F dX6_turned_14 rfl ?_
    refine z_callS F (c_misGroup (nI kd) (nI a) (nI b)) 3 rfl (lw_S q1836 q1837 q117 q1838) (by decide +kernel) ⟨Nat.le_of_ble_eq_true rfl, Nat.le_of_ble_eq_true rfl⟩ ⟨by omega, by omega⟩ [0] 2 ⟨rfl, rfl, rfl, ⟨Or.inl rfl, trivial⟩⟩ (fun h => nomatch h) (Nat.le_of_ble_eq_true rfl) ⟨⟨Or.inr trivial, Or.inr trivial, trivial⟩, rfl, rfl, rfl, Nat.le_of_ble_eq_true rfl⟩ rfl rfl dX6_turned_16 (fun r_16 w_16 hp => ?_) (fun _ _ h => h.elim)
    obtain ⟨rfl, rfl⟩ := hp
    refine z_weq (w' := [zH, zG _ _ _ _]) rfl ?_
    refine z_seq (S' := zi _ :: _) rfl ?_
    refine z_if_eqB F (tgt := 34) dX6_turned_19 (by decide) (fun c_19 => ?_) (fun c_19 => ?_)
    · rw [grB_n hg] at c_19; cases c_19
    · refine z_iload_n F dX6_turned_22 rfl ?_
      refine z_iload_n F dX6_turned_23 rfl ?_
      refine z_iload F dX6_turned_24 rfl ?_
      refine z_iload F dX6_turned_26 rfl ?_
      refine z_callS F (c_mam kd a b m hg) 4 rfl (lw_S q1839 q1840 q117 q1841) (by decide +kernel) ⟨Nat.le_of_ble_eq_true rfl, Nat.le_of_ble_eq_true rfl⟩ ⟨by omega, by omega⟩ [0] 2 ⟨rfl, rfl, rfl, ⟨Or.inl rfl, trivial⟩⟩ (fun h => nomatch h) (Nat.le_of_ble_eq_true rfl) ⟨⟨Or.inr trivial, Or.inr trivial, trivial⟩, rfl, rfl, rfl, Nat.le_of_ble_eq_true rfl⟩ rfl rfl dX6_turned_28 (fun r_28 w_28 hp => ?_) (fun _ _ h => h.elim)
      obtain ⟨rfl, rfl⟩ := hp
      refine z_weq (w' := [zH, zG _ _ _ _]) rfl ?_
      refine z_seq (S' := zi _ :: _) rfl ?_
      refine z_if_neB F (tgt := 36) dX6_turned_31 (by decide) (fun c_31 => ?_) (fun c_31 => ?_)
      · refine z_aload_n F dX6_turned_36 rfl ?_
        refine z_iload_n F dX6_turned_37 rfl ?_
        refine z_iload F dX6_turned_38 rfl ?_
        refine z_imulN F dX6_turned_40 ?_
        refine z_iload F dX6_turned_41 rfl ?_
        refine z_callS F (c_bits m) 1 rfl (lw_S q1752 q1753 q117 q1754) (by decide +kernel) ⟨Nat.le_of_ble_eq_true rfl, Nat.le_of_ble_eq_true rfl⟩ ⟨by omega, by omega⟩ [0] 2 ⟨rfl, rfl, rfl, ⟨Or.inl rfl, trivial⟩⟩ (fun h => nomatch h) (Nat.le_of_ble_eq_true rfl) ⟨⟨Or.inr trivial, Or.inr trivial, trivial⟩, rfl, rfl, rfl, Nat.le_of_ble_eq_true rfl⟩ rfl rfl dX6_turned_43 (fun r_43 w_43 hp => ?_) (fun _ _ h => h.elim)
        obtain ⟨rfl, rfl⟩ := hp
        refine z_weq (w' := [zH, zG _ _ _ _]) rfl ?_
        refine z_seq (S' := zi _ :: _) rfl ?_
        refine z_if_neN F (by omega) (tgt := 53) dX6_turned_46 (by decide) (fun c_46 => ?_) (fun c_46 => ?_)
        · refine z_iload F dX6_turned_53 rfl ?_
          refine z_callS F (c_bits m) 1 rfl (lw_S q1752 q1753 q117 q1754) (by decide +kernel) ⟨Nat.le_of_ble_eq_true rfl, Nat.le_of_ble_eq_true rfl⟩ ⟨by omega, by omega⟩ [0] 2 ⟨rfl, rfl, rfl, ⟨Or.inl rfl, trivial⟩⟩ (fun h => nomatch h) (Nat.le_of_ble_eq_true rfl) ⟨⟨Or.inr trivial, Or.inr trivial, trivial⟩, rfl, rfl, rfl, Nat.le_of_ble_eq_true rfl⟩ rfl rfl dX6_turned_55 (fun r_55 w_55 hp => ?_) (fun _ _ h => h.elim)
          obtain ⟨rfl, rfl⟩ := hp
          refine z_weq (w' := [zH, zG _ _ _ _]) rfl ?_
          refine z_seq (S' := zi _ :: _) rfl ?_
          refine z_callV F (c_clears _ _ _ _ (a * b) (nI (pc32 m))) 2 rfl (lw_V q1720 q1722 qs40 q117 q1723) (by decide +kernel) ⟨Nat.le_of_ble_eq_true rfl, Nat.le_of_ble_eq_true rfl⟩ ⟨by omega, by omega⟩ [0, 1] 2 ⟨rfl, rfl, rfl, ⟨Or.inl rfl, Or.inr rfl, trivial⟩⟩ (fun h => nomatch h) (Nat.le_of_ble_eq_true rfl) ⟨⟨Or.inr trivial, Or.inl rfl, trivial⟩, rfl, rfl, rfl, Nat.le_of_ble_eq_true rfl⟩ rfl zC6 (zat_G0 rfl) rfl dX6_turned_58 (fun r_58 w_58 hp => ?_) (fun _ _ h => h.elim)
          obtain ⟨rfl, F1, A1, rfl, f1, f2, f3⟩ := hp
          refine z_weq (w' := [zH, zG _ _ _ _]) rfl ?_
          refine z_seq (S' := []) rfl ?_
          exact rest F1 A1 ((frm_upd (l := [0]) frm.rf (by decide)).tr f1 (by decide) (by decide)) (by rw [f1.at 0 rfl]; rfl) f3.1 (by rw [f3.2.1, show max 1 (pc32 m) = pc32 m by omega]) f2 f3.2.2
        · refine z_iconst F (nI 1) dX6_turned_49 rfl ?_
          refine z_goto F (tgt := 58) dX6_turned_50 (by decide) ?_
          refine z_callV F (c_clears _ _ _ _ (a * b) (nI 1)) 2 rfl (lw_V q1720 q1722 qs40 q117 q1723) (by decide +kernel) ⟨Nat.le_of_ble_eq_true rfl, Nat.le_of_ble_eq_true rfl⟩ ⟨by omega, by omega⟩ [0, 1] 2 ⟨rfl, rfl, rfl, ⟨Or.inl rfl, Or.inr rfl, trivial⟩⟩ (fun h => nomatch h) (Nat.le_of_ble_eq_true rfl) ⟨⟨Or.inr trivial, Or.inl rfl, trivial⟩, rfl, rfl, rfl, Nat.le_of_ble_eq_true rfl⟩ rfl zC6 (zat_G0 rfl) rfl dX6_turned_58 (fun r_58 w_58 hp => ?_) (fun _ _ h => h.elim)
          obtain ⟨rfl, F1, A1, rfl, f1, f2, f3⟩ := hp
          refine z_weq (w' := [zH, zG _ _ _ _]) rfl ?_
          refine z_seq (S' := []) rfl ?_
          exact rest F1 A1 ((frm_upd (l := [0]) frm.rf (by decide)).tr f1 (by decide) (by decide)) (by rw [f1.at 0 rfl]; rfl) f3.1 (by rw [f3.2.1, show max 1 (pc32 m) = 1 by omega]) f2 f3.2.2
      · rw [hm] at c_31; cases c_31
end C96
