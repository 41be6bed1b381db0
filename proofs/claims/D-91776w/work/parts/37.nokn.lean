/-! the reference where a slot is empty, or a knot is not there -/
section C37
theorem c_mline_no (F0 : Nat → Int32) (G : Nat → Int64) (A : Nat → Nat → Int32) (B : Nat → Nat → Int64) (x a b : Int32) (hs : ∀ j, j < 8 → x = nI j → A 1 j = nI 0) :
    zCtr yX6_line cX6_line 4 (some .boolean) 2 0 0 [zr 1 0, zi x, zi a, zi b] [zH, zG F0 G A B] (fun r w => r = some (zi (nI 0)) ∧ w = [zH, zG (upd F0 0 (nI 1)) G A B]) zNx := by
  refine z_start (by decide) [some (zr 1 0), some (zi x), some (zi a), some (zi b)] rfl (fun _ => Nat.le_of_ble_eq_true rfl) (fun _ => rfl) (fun X F E hno hin => ?_)
  refine z_aload_n F dX6_line_0 rfl ?_
  refine z_iload_n F dX6_line_1 rfl ?_
  refine z_callV F (c_lays_no _ _ _ _ x hs) 1 rfl (lw_V q1732 q1734 qs42 q117 q1735) (by decide +kernel) ⟨Nat.le_of_ble_eq_true rfl, Nat.le_of_ble_eq_true rfl⟩ ⟨by omega, by omega⟩ [0, 1] 2 ⟨rfl, rfl, rfl, ⟨Or.inl rfl, Or.inr rfl, trivial⟩⟩ (fun h => nomatch h) (Nat.le_of_ble_eq_true rfl) ⟨⟨Or.inr trivial, Or.inl rfl, trivial⟩, rfl, rfl, rfl, Nat.le_of_ble_eq_true rfl⟩ rfl zC6 (zat_G0 rfl) rfl dX6_line_2 (fun r_2 w_2 hp => ?_) (fun _ _ h => h.elim)
  obtain ⟨rfl, rfl⟩ := hp
  refine z_weq (w' := [zH, zG _ _ _ _]) rfl ?_
  refine z_seq (S' := zi _ :: _) rfl ?_
  refine z_if_eqB F (tgt := 17) dX6_line_5 (by decide) (fun c_5 => ?_) (fun c_5 => ?_)
  · refine z_iconst F (nI 0) dX6_line_17 rfl ?_
    exact z_zret F E rfl rfl dX6_line_18 (by omega) (by omega) (⟨rfl, rfl⟩)
  · cases c_5
theorem c_mline_kn (F0 : Nat → Int32) (G : Nat → Int64) (A : Nat → Nat → Int32) (B : Nat → Nat → Int64) (j n : Nat) (d : Int32) (f : Nat → Int32) (a b : Int32) (hj : j < 8) (hn : 0 < n) (hn2 : n ≤ 24) (hs : Slt A j n d f) (hk : (knB n a && knB n b) = false) :
    zCtr yX6_line cX6_line 4 (some .boolean) 2 0 0 [zr 1 0, zi (nI j), zi a, zi b] [zH, zG F0 G A B] (fun r w => r = some (zi (nI 0)) ∧ ∃ F' A', w = [zH, zG F' G A' B] ∧ F' 0 = nI 1 ∧ frm [0, 4, 5] F0 F' ∧ frm [6] A A') zNx := by
  refine z_start (by decide) [some (zr 1 0), some (zi (nI j)), some (zi a), some (zi b)] rfl (fun _ => Nat.le_of_ble_eq_true rfl) (fun _ => rfl) (fun X F E hno hin => ?_)
  refine z_aload_n F dX6_line_0 rfl ?_
  refine z_iload_n F dX6_line_1 rfl ?_
  refine z_callV F (c_lays_ok _ _ _ _ j n d f hj hn hn2 hs) 1 rfl (lw_V q1732 q1734 qs42 q117 q1735) (by decide +kernel) ⟨Nat.le_of_ble_eq_true rfl, Nat.le_of_ble_eq_true rfl⟩ ⟨by omega, by omega⟩ [0, 1] 2 ⟨rfl, rfl, rfl, ⟨Or.inl rfl, Or.inr rfl, trivial⟩⟩ (fun h => nomatch h) (Nat.le_of_ble_eq_true rfl) ⟨⟨Or.inr trivial, Or.inl rfl, trivial⟩, rfl, rfl, rfl, Nat.le_of_ble_eq_true rfl⟩ rfl zC6 (zat_G0 rfl) rfl dX6_line_2 (fun r_2 w_2 hp => ?_) (fun _ _ h => h.elim)
  obtain ⟨rfl, F1, A1, rfl, f0, f1, f2, f3⟩ := hp
  refine z_weq (w' := [zH, zG _ _ _ _]) rfl ?_
  refine z_seq (S' := zi _ :: _) rfl ?_
  refine z_if_eqB F (tgt := 17) dX6_line_5 (by decide) (fun c_5 => ?_) (fun c_5 => ?_)
  · cases c_5
  · refine z_aload_n F dX6_line_8 rfl ?_
    refine z_iload_n F dX6_line_9 rfl ?_
    refine z_iload_n F dX6_line_10 rfl ?_
    refine z_callV F (c_mhas _ _ _ _ n a b f0 f3.1) 2 rfl (lw_V q1740 q1742 qs44 q117 q1743) (by decide +kernel) ⟨Nat.le_of_ble_eq_true rfl, Nat.le_of_ble_eq_true rfl⟩ ⟨by omega, by omega⟩ [0, 1] 2 ⟨rfl, rfl, rfl, ⟨Or.inl rfl, Or.inr rfl, trivial⟩⟩ (fun h => nomatch h) (Nat.le_of_ble_eq_true rfl) ⟨⟨Or.inr trivial, Or.inl rfl, trivial⟩, rfl, rfl, rfl, Nat.le_of_ble_eq_true rfl⟩ rfl zC6 (zat_G0 rfl) rfl dX6_line_11 (fun r_11 w_11 hp => ?_) (fun _ _ h => h.elim)
    obtain ⟨rfl, rfl⟩ := hp
    refine z_weq (w' := [zH, zG _ _ _ _]) rfl ?_
    refine z_seq (S' := zi _ :: _) rfl ?_
    refine z_if_neB F (tgt := 19) dX6_line_14 (by decide) (fun c_14 => ?_) (fun c_14 => ?_)
    · rw [hk] at c_14; cases c_14
    · refine z_iconst F (nI 0) dX6_line_17 rfl ?_
      exact z_zret F E rfl rfl dX6_line_18 (by omega) (by omega) (⟨rfl, _, _, rfl, by rw [hk, if_neg (by decide)]; rfl, by rw [hk, if_neg (by decide)]; exact frm_upd f1 (by decide), f2⟩)
theorem c_moff_no (F0 : Nat → Int32) (G : Nat → Int64) (A : Nat → Nat → Int32) (B : Nat → Nat → Int64) (x a b : Int32) (hs : ∀ j, j < 8 → x = nI j → A 1 j = nI 0) :
    zCtr yX6_off cX6_off 4 (some .boolean) 2 0 0 [zr 1 0, zi x, zi a, zi b] [zH, zG F0 G A B] (fun r w => r = some (zi (nI 0)) ∧ w = [zH, zG (upd F0 0 (nI 1)) G A B]) zNx := by
  refine z_start (by decide) [some (zr 1 0), some (zi x), some (zi a), some (zi b)] rfl (fun _ => Nat.le_of_ble_eq_true rfl) (fun _ => rfl) (fun X F E hno hin => ?_)
  refine z_aload_n F dX6_off_0 rfl ?_
  refine z_iload_n F dX6_off_1 rfl ?_
  refine z_callV F (c_lays_no _ _ _ _ x hs) 1 rfl (lw_V q1732 q1734 qs42 q117 q1735) (by decide +kernel) ⟨Nat.le_of_ble_eq_true rfl, Nat.le_of_ble_eq_true rfl⟩ ⟨by omega, by omega⟩ [0, 1] 2 ⟨rfl, rfl, rfl, ⟨Or.inl rfl, Or.inr rfl, trivial⟩⟩ (fun h => nomatch h) (Nat.le_of_ble_eq_true rfl) ⟨⟨Or.inr trivial, Or.inl rfl, trivial⟩, rfl, rfl, rfl, Nat.le_of_ble_eq_true rfl⟩ rfl zC6 (zat_G0 rfl) rfl dX6_off_2 (fun r_2 w_2 hp => ?_) (fun _ _ h => h.elim)
  obtain ⟨rfl, rfl⟩ := hp
  refine z_weq (w' := [zH, zG _ _ _ _]) rfl ?_
  refine z_seq (S' := zi _ :: _) rfl ?_
  refine z_if_eqB F (tgt := 17) dX6_off_5 (by decide) (fun c_5 => ?_) (fun c_5 => ?_)
  · refine z_iconst F (nI 0) dX6_off_17 rfl ?_
    exact z_zret F E rfl rfl dX6_off_18 (by omega) (by omega) (⟨rfl, rfl⟩)
  · cases c_5
theorem c_moff_kn (F0 : Nat → Int32) (G : Nat → Int64) (A : Nat → Nat → Int32) (B : Nat → Nat → Int64) (j n : Nat) (d : Int32) (f : Nat → Int32) (a b : Int32) (hj : j < 8) (hn : 0 < n) (hn2 : n ≤ 24) (hs : Slt A j n d f) (hk : (knB n a && knB n b) = false) :
    zCtr yX6_off cX6_off 4 (some .boolean) 2 0 0 [zr 1 0, zi (nI j), zi a, zi b] [zH, zG F0 G A B] (fun r w => r = some (zi (nI 0)) ∧ ∃ F' A', w = [zH, zG F' G A' B] ∧ F' 0 = nI 1 ∧ frm [0, 4, 5] F0 F' ∧ frm [6] A A') zNx := by
  refine z_start (by decide) [some (zr 1 0), some (zi (nI j)), some (zi a), some (zi b)] rfl (fun _ => Nat.le_of_ble_eq_true rfl) (fun _ => rfl) (fun X F E hno hin => ?_)
  refine z_aload_n F dX6_off_0 rfl ?_
  refine z_iload_n F dX6_off_1 rfl ?_
  refine z_callV F (c_lays_ok _ _ _ _ j n d f hj hn hn2 hs) 1 rfl (lw_V q1732 q1734 qs42 q117 q1735) (by decide +kernel) ⟨Nat.le_of_ble_eq_true rfl, Nat.le_of_ble_eq_true rfl⟩ ⟨by omega, by omega⟩ [0, 1] 2 ⟨rfl, rfl, rfl, ⟨Or.inl rfl, Or.inr rfl, trivial⟩⟩ (fun h => nomatch h) (Nat.le_of_ble_eq_true rfl) ⟨⟨Or.inr trivial, Or.inl rfl, trivial⟩, rfl, rfl, rfl, Nat.le_of_ble_eq_true rfl⟩ rfl zC6 (zat_G0 rfl) rfl dX6_off_2 (fun r_2 w_2 hp => ?_) (fun _ _ h => h.elim)
  obtain ⟨rfl, F1, A1, rfl, f0, f1, f2, f3⟩ := hp
  refine z_weq (w' := [zH, zG _ _ _ _]) rfl ?_
  refine z_seq (S' := zi _ :: _) rfl ?_
  refine z_if_eqB F (tgt := 17) dX6_off_5 (by decide) (fun c_5 => ?_) (fun c_5 => ?_)
  · cases c_5
  · refine z_aload_n F dX6_off_8 rfl ?_
    refine z_iload_n F dX6_off_9 rfl ?_
    refine z_iload_n F dX6_off_10 rfl ?_
    refine z_callV F (c_mhas _ _ _ _ n a b f0 f3.1) 2 rfl (lw_V q1740 q1742 qs44 q117 q1743) (by decide +kernel) ⟨Nat.le_of_ble_eq_true rfl, Nat.le_of_ble_eq_true rfl⟩ ⟨by omega, by omega⟩ [0, 1] 2 ⟨rfl, rfl, rfl, ⟨Or.inl rfl, Or.inr rfl, trivial⟩⟩ (fun h => nomatch h) (Nat.le_of_ble_eq_true rfl) ⟨⟨Or.inr trivial, Or.inl rfl, trivial⟩, rfl, rfl, rfl, Nat.le_of_ble_eq_true rfl⟩ rfl zC6 (zat_G0 rfl) rfl dX6_off_11 (fun r_11 w_11 hp => ?_) (fun _ _ h => h.elim)
    obtain ⟨rfl, rfl⟩ := hp
    refine z_weq (w' := [zH, zG _ _ _ _]) rfl ?_
    refine z_seq (S' := zi _ :: _) rfl ?_
    refine z_if_neB F (tgt := 19) dX6_off_14 (by decide) (fun c_14 => ?_) (fun c_14 => ?_)
    · rw [hk] at c_14; cases c_14
    · refine z_iconst F (nI 0) dX6_off_17 rfl ?_
      exact z_zret F E rfl rfl dX6_off_18 (by omega) (by omega) (⟨rfl, _, _, rfl, by rw [hk, if_neg (by decide)]; rfl, by rw [hk, if_neg (by decide)]; exact frm_upd f1 (by decide), f2⟩)
theorem c_mcopy_no (F0 : Nat → Int32) (G : Nat → Int64) (A : Nat → Nat → Int32) (B : Nat → Nat → Int64) (x a : Int32) (hs : ∀ j, j < 8 → x = nI j → A 1 j = nI 0) :
    zCtr yX6_copy cX6_copy 3 (some .boolean) 2 0 0 [zr 1 0, zi x, zi a] [zH, zG F0 G A B] (fun r w => r = some (zi (nI 0)) ∧ w = [zH, zG (upd F0 0 (nI 1)) G A B]) zNx := by
  refine z_start (by decide) [some (zr 1 0), some (zi x), some (zi a)] rfl (fun _ => Nat.le_of_ble_eq_true rfl) (fun _ => rfl) (fun X F E hno hin => ?_)
  refine z_aload_n F dX6_copy_0 rfl ?_
  refine z_iload_n F dX6_copy_1 rfl ?_
  refine z_callV F (c_lays_no _ _ _ _ x hs) 1 rfl (lw_V q1732 q1734 qs42 q117 q1735) (by decide +kernel) ⟨Nat.le_of_ble_eq_true rfl, Nat.le_of_ble_eq_true rfl⟩ ⟨by omega, by omega⟩ [0, 1] 2 ⟨rfl, rfl, rfl, ⟨Or.inl rfl, Or.inr rfl, trivial⟩⟩ (fun h => nomatch h) (Nat.le_of_ble_eq_true rfl) ⟨⟨Or.inr trivial, Or.inl rfl, trivial⟩, rfl, rfl, rfl, Nat.le_of_ble_eq_true rfl⟩ rfl zC6 (zat_G0 rfl) rfl dX6_copy_2 (fun r_2 w_2 hp => ?_) (fun _ _ h => h.elim)
  obtain ⟨rfl, rfl⟩ := hp
  refine z_weq (w' := [zH, zG _ _ _ _]) rfl ?_
  refine z_seq (S' := zi _ :: _) rfl ?_
  refine z_if_neB F (tgt := 10) dX6_copy_5 (by decide) (fun c_5 => ?_) (fun c_5 => ?_)
  · cases c_5
  · refine z_iconst F (nI 0) dX6_copy_8 rfl ?_
    exact z_zret F E rfl rfl dX6_copy_9 (by omega) (by omega) (⟨rfl, rfl⟩)
theorem c_mabout_no (F0 : Nat → Int32) (G : Nat → Int64) (A : Nat → Nat → Int32) (B : Nat → Nat → Int64) (x a : Int32) (hs : ∀ j, j < 8 → x = nI j → A 1 j = nI 0) :
    zCtr yX6_about cX6_about 6 (some .int) 2 0 0 [zr 1 0, zi x, zi a] [zH, zG F0 G A B] (fun r w => r = some (zi (nI 0)) ∧ w = [zH, zG (upd F0 0 (nI 1)) G A B]) zNx := by
  refine z_start (by decide) [some (zr 1 0), some (zi x), some (zi a), none, none, none] rfl (fun _ => Nat.le_of_ble_eq_true rfl) (fun _ => rfl) (fun X F E hno hin => ?_)
  refine z_aload_n F dX6_about_0 rfl ?_
  refine z_iload_n F dX6_about_1 rfl ?_
  refine z_callV F (c_lays_no _ _ _ _ x hs) 1 rfl (lw_V q1732 q1734 qs42 q117 q1735) (by decide +kernel) ⟨Nat.le_of_ble_eq_true rfl, Nat.le_of_ble_eq_true rfl⟩ ⟨by omega, by omega⟩ [0, 1] 2 ⟨rfl, rfl, rfl, ⟨Or.inl rfl, Or.inr rfl, trivial⟩⟩ (fun h => nomatch h) (Nat.le_of_ble_eq_true rfl) ⟨⟨Or.inr trivial, Or.inl rfl, trivial⟩, rfl, rfl, rfl, Nat.le_of_ble_eq_true rfl⟩ rfl zC6 (zat_G0 rfl) rfl dX6_about_2 (fun r_2 w_2 hp => ?_) (fun _ _ h => h.elim)
  obtain ⟨rfl, rfl⟩ := hp
  refine z_weq (w' := [zH, zG _ _ _ _]) rfl ?_
  refine z_seq (S' := zi _ :: _) rfl ?_
  refine z_if_eqB F (tgt := 30) dX6_about_5 (by decide) (fun c_5 => ?_) (fun c_5 => ?_)
  · refine z_iconst F (nI 0) dX6_about_30 rfl ?_
    exact z_iret F E rfl dX6_about_31 (by omega) (by omega) (⟨rfl, rfl⟩)
  · cases c_5
theorem c_mlineAt_no (F0 : Nat → Int32) (G : Nat → Int64) (A : Nat → Nat → Int32) (B : Nat → Nat → Int64) (x a : Int32) (hs : ∀ j, j < 8 → x = nI j → A 1 j = nI 0) :
    zCtr yX6_lineAt cX6_lineAt 3 (some .int) 2 0 0 [zr 1 0, zi x, zi a] [zH, zG F0 G A B] (fun r w => r = some (zi (nI 0)) ∧ w = [zH, zG (upd F0 0 (nI 1)) G A B]) zNx := by
  refine z_start (by decide) [some (zr 1 0), some (zi x), some (zi a)] rfl (fun _ => Nat.le_of_ble_eq_true rfl) (fun _ => rfl) (fun X F E hno hin => ?_)
  refine z_aload_n F dX6_lineAt_0 rfl ?_
  refine z_iload_n F dX6_lineAt_1 rfl ?_
  refine z_callV F (c_lays_no _ _ _ _ x hs) 1 rfl (lw_V q1732 q1734 qs42 q117 q1735) (by decide +kernel) ⟨Nat.le_of_ble_eq_true rfl, Nat.le_of_ble_eq_true rfl⟩ ⟨by omega, by omega⟩ [0, 1] 2 ⟨rfl, rfl, rfl, ⟨Or.inl rfl, Or.inr rfl, trivial⟩⟩ (fun h => nomatch h) (Nat.le_of_ble_eq_true rfl) ⟨⟨Or.inr trivial, Or.inl rfl, trivial⟩, rfl, rfl, rfl, Nat.le_of_ble_eq_true rfl⟩ rfl zC6 (zat_G0 rfl) rfl dX6_lineAt_2 (fun r_2 w_2 hp => ?_) (fun _ _ h => h.elim)
  obtain ⟨rfl, rfl⟩ := hp
  refine z_weq (w' := [zH, zG _ _ _ _]) rfl ?_
  refine z_seq (S' := zi _ :: _) rfl ?_
  refine z_if_neB F (tgt := 10) dX6_lineAt_5 (by decide) (fun c_5 => ?_) (fun c_5 => ?_)
  · cases c_5
  · refine z_iconst F (nI 0) dX6_lineAt_8 rfl ?_
    exact z_iret F E rfl dX6_lineAt_9 (by omega) (by omega) (⟨rfl, rfl⟩)
theorem c_mdistance_no (F0 : Nat → Int32) (G : Nat → Int64) (A : Nat → Nat → Int32) (B : Nat → Nat → Int64) (x a b : Int32) (hs : ∀ j, j < 8 → x = nI j → A 1 j = nI 0) :
    zCtr yX6_distance cX6_distance 4 (some .int) 2 0 0 [zr 1 0, zi x, zi a, zi b] [zH, zG F0 G A B] (fun r w => r = some (zi (nI 0)) ∧ w = [zH, zG (upd F0 0 (nI 1)) G A B]) zNx := by
  refine z_start (by decide) [some (zr 1 0), some (zi x), some (zi a), some (zi b)] rfl (fun _ => Nat.le_of_ble_eq_true rfl) (fun _ => rfl) (fun X F E hno hin => ?_)
  refine z_aload_n F dX6_distance_0 rfl ?_
  refine z_iload_n F dX6_distance_1 rfl ?_
  refine z_callV F (c_lays_no _ _ _ _ x hs) 1 rfl (lw_V q1732 q1734 qs42 q117 q1735) (by decide +kernel) ⟨Nat.le_of_ble_eq_true rfl, Nat.le_of_ble_eq_true rfl⟩ ⟨by omega, by omega⟩ [0, 1] 2 ⟨rfl, rfl, rfl, ⟨Or.inl rfl, Or.inr rfl, trivial⟩⟩ (fun h => nomatch h) (Nat.le_of_ble_eq_true rfl) ⟨⟨Or.inr trivial, Or.inl rfl, trivial⟩, rfl, rfl, rfl, Nat.le_of_ble_eq_true rfl⟩ rfl zC6 (zat_G0 rfl) rfl dX6_distance_2 (fun r_2 w_2 hp => ?_) (fun _ _ h => h.elim)
  obtain ⟨rfl, rfl⟩ := hp
  refine z_weq (w' := [zH, zG _ _ _ _]) rfl ?_
  refine z_seq (S' := zi _ :: _) rfl ?_
  refine z_if_eqB F (tgt := 17) dX6_distance_5 (by decide) (fun c_5 => ?_) (fun c_5 => ?_)
  · refine z_iconst F (nI 0) dX6_distance_17 rfl ?_
    exact z_iret F E rfl dX6_distance_18 (by omega) (by omega) (⟨rfl, rfl⟩)
  · cases c_5
theorem c_mdistance_kn (F0 : Nat → Int32) (G : Nat → Int64) (A : Nat → Nat → Int32) (B : Nat → Nat → Int64) (j n : Nat) (d : Int32) (f : Nat → Int32) (a b : Int32) (hj : j < 8) (hn : 0 < n) (hn2 : n ≤ 24) (hs : Slt A j n d f) (hk : (knB n a && knB n b) = false) :
    zCtr yX6_distance cX6_distance 4 (some .int) 2 0 0 [zr 1 0, zi (nI j), zi a, zi b] [zH, zG F0 G A B] (fun r w => r = some (zi (nI 0)) ∧ ∃ F' A', w = [zH, zG F' G A' B] ∧ F' 0 = nI 1 ∧ frm [0, 4, 5] F0 F' ∧ frm [6] A A') zNx := by
  refine z_start (by decide) [some (zr 1 0), some (zi (nI j)), some (zi a), some (zi b)] rfl (fun _ => Nat.le_of_ble_eq_true rfl) (fun _ => rfl) (fun X F E hno hin => ?_)
  refine z_aload_n F dX6_distance_0 rfl ?_
  refine z_iload_n F dX6_distance_1 rfl ?_
  refine z_callV F (c_lays_ok _ _ _ _ j n d f hj hn hn2 hs) 1 rfl (lw_V q1732 q1734 qs42 q117 q1735) (by decide +kernel) ⟨Nat.le_of_ble_eq_true rfl, Nat.le_of_ble_eq_true rfl⟩ ⟨by omega, by omega⟩ [0, 1] 2 ⟨rfl, rfl, rfl, ⟨Or.inl rfl, Or.inr rfl, trivial⟩⟩ (fun h => nomatch h) (Nat.le_of_ble_eq_true rfl) ⟨⟨Or.inr trivial, Or.inl rfl, trivial⟩, rfl, rfl, rfl, Nat.le_of_ble_eq_true rfl⟩ rfl zC6 (zat_G0 rfl) rfl dX6_distance_2 (fun r_2 w_2 hp => ?_) (fun _ _ h => h.elim)
  obtain ⟨rfl, F1, A1, rfl, f0, f1, f2, f3⟩ := hp
  refine z_weq (w' := [zH, zG _ _ _ _]) rfl ?_
  refine z_seq (S' := zi _ :: _) rfl ?_
  refine z_if_eqB F (tgt := 17) dX6_distance_5 (by decide) (fun c_5 => ?_) (fun c_5 => ?_)
  · cases c_5
  · refine z_aload_n F dX6_distance_8 rfl ?_
    refine z_iload_n F dX6_distance_9 rfl ?_
    refine z_iload_n F dX6_distance_10 rfl ?_
    refine z_callV F (c_mhas _ _ _ _ n a b f0 f3.1) 2 rfl (lw_V q1740 q1742 qs44 q117 q1743) (by decide +kernel) ⟨Nat.le_of_ble_eq_true rfl, Nat.le_of_ble_eq_true rfl⟩ ⟨by omega, by omega⟩ [0, 1] 2 ⟨rfl, rfl, rfl, ⟨Or.inl rfl, Or.inr rfl, trivial⟩⟩ (fun h => nomatch h) (Nat.le_of_ble_eq_true rfl) ⟨⟨Or.inr trivial, Or.inl rfl, trivial⟩, rfl, rfl, rfl, Nat.le_of_ble_eq_true rfl⟩ rfl zC6 (zat_G0 rfl) rfl dX6_distance_11 (fun r_11 w_11 hp => ?_) (fun _ _ h => h.elim)
    obtain ⟨rfl, rfl⟩ := hp
    refine z_weq (w' := [zH, zG _ _ _ _]) rfl ?_
    refine z_seq (S' := zi _ :: _) rfl ?_
    refine z_if_neB F (tgt := 19) dX6_distance_14 (by decide) (fun c_14 => ?_) (fun c_14 => ?_)
    · rw [hk] at c_14; cases c_14
    · refine z_iconst F (nI 0) dX6_distance_17 rfl ?_
      exact z_iret F E rfl dX6_distance_18 (by omega) (by omega) (⟨rfl, _, _, rfl, by rw [hk, if_neg (by decide)]; rfl, by rw [hk, if_neg (by decide)]; exact frm_upd f1 (by decide), f2⟩)
theorem c_mapart_no (F0 : Nat → Int32) (G : Nat → Int64) (A : Nat → Nat → Int32) (B : Nat → Nat → Int64) (x a b : Int32) (hs : ∀ j, j < 8 → x = nI j → A 1 j = nI 0) :
    zCtr yX6_apart cX6_apart 4 (some .int) 2 0 0 [zr 1 0, zi x, zi a, zi b] [zH, zG F0 G A B] (fun r w => r = some (zi (nI 0)) ∧ w = [zH, zG (upd F0 0 (nI 1)) G A B]) zNx := by
  refine z_start (by decide) [some (zr 1 0), some (zi x), some (zi a), some (zi b)] rfl (fun _ => Nat.le_of_ble_eq_true rfl) (fun _ => rfl) (fun X F E hno hin => ?_)
  refine z_aload_n F dX6_apart_0 rfl ?_
  refine z_iload_n F dX6_apart_1 rfl ?_
  refine z_callV F (c_lays_no _ _ _ _ x hs) 1 rfl (lw_V q1732 q1734 qs42 q117 q1735) (by decide +kernel) ⟨Nat.le_of_ble_eq_true rfl, Nat.le_of_ble_eq_true rfl⟩ ⟨by omega, by omega⟩ [0, 1] 2 ⟨rfl, rfl, rfl, ⟨Or.inl rfl, Or.inr rfl, trivial⟩⟩ (fun h => nomatch h) (Nat.le_of_ble_eq_true rfl) ⟨⟨Or.inr trivial, Or.inl rfl, trivial⟩, rfl, rfl, rfl, Nat.le_of_ble_eq_true rfl⟩ rfl zC6 (zat_G0 rfl) rfl dX6_apart_2 (fun r_2 w_2 hp => ?_) (fun _ _ h => h.elim)
  obtain ⟨rfl, rfl⟩ := hp
  refine z_weq (w' := [zH, zG _ _ _ _]) rfl ?_
  refine z_seq (S' := zi _ :: _) rfl ?_
  refine z_if_eqB F (tgt := 17) dX6_apart_5 (by decide) (fun c_5 => ?_) (fun c_5 => ?_)
  · refine z_iconst F (nI 0) dX6_apart_17 rfl ?_
    exact z_iret F E rfl dX6_apart_18 (by omega) (by omega) (⟨rfl, rfl⟩)
  · cases c_5
theorem c_mapart_kn (F0 : Nat → Int32) (G : Nat → Int64) (A : Nat → Nat → Int32) (B : Nat → Nat → Int64) (j n : Nat) (d : Int32) (f : Nat → Int32) (a b : Int32) (hj : j < 8) (hn : 0 < n) (hn2 : n ≤ 24) (hs : Slt A j n d f) (hk : (knB n a && knB n b) = false) :
    zCtr yX6_apart cX6_apart 4 (some .int) 2 0 0 [zr 1 0, zi (nI j), zi a, zi b] [zH, zG F0 G A B] (fun r w => r = some (zi (nI 0)) ∧ ∃ F' A', w = [zH, zG F' G A' B] ∧ F' 0 = nI 1 ∧ frm [0, 4, 5] F0 F' ∧ frm [6] A A') zNx := by
  refine z_start (by decide) [some (zr 1 0), some (zi (nI j)), some (zi a), some (zi b)] rfl (fun _ => Nat.le_of_ble_eq_true rfl) (fun _ => rfl) (fun X F E hno hin => ?_)
  refine z_aload_n F dX6_apart_0 rfl ?_
  refine z_iload_n F dX6_apart_1 rfl ?_
  refine z_callV F (c_lays_ok _ _ _ _ j n d f hj hn hn2 hs) 1 rfl (lw_V q1732 q1734 qs42 q117 q1735) (by decide +kernel) ⟨Nat.le_of_ble_eq_true rfl, Nat.le_of_ble_eq_true rfl⟩ ⟨by omega, by omega⟩ [0, 1] 2 ⟨rfl, rfl, rfl, ⟨Or.inl rfl, Or.inr rfl, trivial⟩⟩ (fun h => nomatch h) (Nat.le_of_ble_eq_true rfl) ⟨⟨Or.inr trivial, Or.inl rfl, trivial⟩, rfl, rfl, rfl, Nat.le_of_ble_eq_true rfl⟩ rfl zC6 (zat_G0 rfl) rfl dX6_apart_2 (fun r_2 w_2 hp => ?_) (fun _ _ h => h.elim)
  obtain ⟨rfl, F1, A1, rfl, f0, f1, f2, f3⟩ := hp
  refine z_weq (w' := [zH, zG _ _ _ _]) rfl ?_
  refine z_seq (S' := zi _ :: _) rfl ?_
  refine z_if_eqB F (tgt := 17) dX6_apart_5 (by decide) (fun c_5 => ?_) (fun c_5 => ?_)
  · cases c_5
  · refine z_aload_n F dX6_apart_8 rfl ?_
    refine z_iload_n F dX6_apart_9 rfl ?_
    refine z_iload_n F dX6_apart_10 rfl ?_
    refine z_callV F (c_mhas _ _ _ _ n a b f0 f3.1) 2 rfl (lw_V q1740 q1742 qs44 q117 q1743) (by decide +kernel) ⟨Nat.le_of_ble_eq_true rfl, Nat.le_of_ble_eq_true rfl⟩ ⟨by omega, by omega⟩ [0, 1] 2 ⟨rfl, rfl, rfl, ⟨Or.inl rfl, Or.inr rfl, trivial⟩⟩ (fun h => nomatch h) (Nat.le_of_ble_eq_true rfl) ⟨⟨Or.inr trivial, Or.inl rfl, trivial⟩, rfl, rfl, rfl, Nat.le_of_ble_eq_true rfl⟩ rfl zC6 (zat_G0 rfl) rfl dX6_apart_11 (fun r_11 w_11 hp => ?_) (fun _ _ h => h.elim)
    obtain ⟨rfl, rfl⟩ := hp
    refine z_weq (w' := [zH, zG _ _ _ _]) rfl ?_
    refine z_seq (S' := zi _ :: _) rfl ?_
    refine z_if_neB F (tgt := 19) dX6_apart_14 (by decide) (fun c_14 => ?_) (fun c_14 => ?_)
    · rw [hk] at c_14; cases c_14
    · refine z_iconst F (nI 0) dX6_apart_17 rfl ?_
      exact z_iret F E rfl dX6_apart_18 (by omega) (by omega) (⟨rfl, _, _, rfl, by rw [hk, if_neg (by decide)]; rfl, by rw [hk, if_neg (by decide)]; exact frm_upd f1 (by decide), f2⟩)
theorem c_mfar_no (F0 : Nat → Int32) (G : Nat → Int64) (A : Nat → Nat → Int32) (B : Nat → Nat → Int64) (x a : Int32) (hs : ∀ j, j < 8 → x = nI j → A 1 j = nI 0) :
    zCtr yX6_far cX6_far 3 (some .int) 2 0 0 [zr 1 0, zi x, zi a] [zH, zG F0 G A B] (fun r w => r = some (zi (nI 0)) ∧ w = [zH, zG (upd F0 0 (nI 1)) G A B]) zNx := by
  refine z_start (by decide) [some (zr 1 0), some (zi x), some (zi a)] rfl (fun _ => Nat.le_of_ble_eq_true rfl) (fun _ => rfl) (fun X F E hno hin => ?_)
  refine z_aload_n F dX6_far_0 rfl ?_
  refine z_iload_n F dX6_far_1 rfl ?_
  refine z_callV F (c_lays_no _ _ _ _ x hs) 1 rfl (lw_V q1732 q1734 qs42 q117 q1735) (by decide +kernel) ⟨Nat.le_of_ble_eq_true rfl, Nat.le_of_ble_eq_true rfl⟩ ⟨by omega, by omega⟩ [0, 1] 2 ⟨rfl, rfl, rfl, ⟨Or.inl rfl, Or.inr rfl, trivial⟩⟩ (fun h => nomatch h) (Nat.le_of_ble_eq_true rfl) ⟨⟨Or.inr trivial, Or.inl rfl, trivial⟩, rfl, rfl, rfl, Nat.le_of_ble_eq_true rfl⟩ rfl zC6 (zat_G0 rfl) rfl dX6_far_2 (fun r_2 w_2 hp => ?_) (fun _ _ h => h.elim)
  obtain ⟨rfl, rfl⟩ := hp
  refine z_weq (w' := [zH, zG _ _ _ _]) rfl ?_
  refine z_seq (S' := zi _ :: _) rfl ?_
  refine z_if_eqB F (tgt := 30) dX6_far_5 (by decide) (fun c_5 => ?_) (fun c_5 => ?_)
  · refine z_iconst F (nI 0) dX6_far_30 rfl ?_
    exact z_iret F E rfl dX6_far_31 (by omega) (by omega) (⟨rfl, rfl⟩)
  · cases c_5
theorem c_mpoly_no (F0 : Nat → Int32) (G : Nat → Int64) (A : Nat → Nat → Int32) (B : Nat → Nat → Int64) (x a : Int32) (hs : ∀ j, j < 8 → x = nI j → A 1 j = nI 0) :
    zCtr yX6_poly cX6_poly 3 (some .long) 2 0 0 [zr 1 0, zi x, zi a] [zH, zG F0 G A B] (fun r w => r = some (zl 0) ∧ w = [zH, zG (upd F0 0 (nI 1)) G A B]) zNx := by
  refine z_start (by decide) [some (zr 1 0), some (zi x), some (zi a)] rfl (fun _ => Nat.le_of_ble_eq_true rfl) (fun _ => rfl) (fun X F E hno hin => ?_)
  refine z_aload_n F dX6_poly_0 rfl ?_
  refine z_iload_n F dX6_poly_1 rfl ?_
  refine z_callV F (c_lays_no _ _ _ _ x hs) 1 rfl (lw_V q1732 q1734 qs42 q117 q1735) (by decide +kernel) ⟨Nat.le_of_ble_eq_true rfl, Nat.le_of_ble_eq_true rfl⟩ ⟨by omega, by omega⟩ [0, 1] 2 ⟨rfl, rfl, rfl, ⟨Or.inl rfl, Or.inr rfl, trivial⟩⟩ (fun h => nomatch h) (Nat.le_of_ble_eq_true rfl) ⟨⟨Or.inr trivial, Or.inl rfl, trivial⟩, rfl, rfl, rfl, Nat.le_of_ble_eq_true rfl⟩ rfl zC6 (zat_G0 rfl) rfl dX6_poly_2 (fun r_2 w_2 hp => ?_) (fun _ _ h => h.elim)
  obtain ⟨rfl, rfl⟩ := hp
  refine z_weq (w' := [zH, zG _ _ _ _]) rfl ?_
  refine z_seq (S' := zi _ :: _) rfl ?_
  refine z_if_eqB F (tgt := 55) dX6_poly_5 (by decide) (fun c_5 => ?_) (fun c_5 => ?_)
  · refine z_lconst F 0 dX6_poly_55 rfl ?_
    exact z_lret F E rfl dX6_poly_56 (by omega) (by omega) (⟨rfl, rfl⟩)
  · cases c_5
theorem c_mabove_no (F0 : Nat → Int32) (G : Nat → Int64) (A : Nat → Nat → Int32) (B : Nat → Nat → Int64) (x a : Int32) (hs : ∀ j, j < 8 → x = nI j → A 1 j = nI 0) :
    zCtr yX6_above cX6_above 7 (some .int) 2 0 0 [zr 1 0, zi x, zi a] [zH, zG F0 G A B] (fun r w => r = some (zi (nI 0)) ∧ w = [zH, zG (upd F0 0 (nI 1)) G A B]) zNx := by
  refine z_start (by decide) [some (zr 1 0), some (zi x), some (zi a), none, none, none, none] rfl (fun _ => Nat.le_of_ble_eq_true rfl) (fun _ => rfl) (fun X F E hno hin => ?_)
  refine z_aload_n F dX6_above_0 rfl ?_
  refine z_iload_n F dX6_above_1 rfl ?_
  refine z_callV F (c_lays_no _ _ _ _ x hs) 1 rfl (lw_V q1732 q1734 qs42 q117 q1735) (by decide +kernel) ⟨Nat.le_of_ble_eq_true rfl, Nat.le_of_ble_eq_true rfl⟩ ⟨by omega, by omega⟩ [0, 1] 2 ⟨rfl, rfl, rfl, ⟨Or.inl rfl, Or.inr rfl, trivial⟩⟩ (fun h => nomatch h) (Nat.le_of_ble_eq_true rfl) ⟨⟨Or.inr trivial, Or.inl rfl, trivial⟩, rfl, rfl, rfl, Nat.le_of_ble_eq_true rfl⟩ rfl zC6 (zat_G0 rfl) rfl dX6_above_2 (fun r_2 w_2 hp => ?_) (fun _ _ h => h.elim)
  obtain ⟨rfl, rfl⟩ := hp
  refine z_weq (w' := [zH, zG _ _ _ _]) rfl ?_
  refine z_seq (S' := zi _ :: _) rfl ?_
  refine z_if_eqB F (tgt := 41) dX6_above_5 (by decide) (fun c_5 => ?_) (fun c_5 => ?_)
  · refine z_iconst F (nI 0) dX6_above_41 rfl ?_
    exact z_iret F E rfl dX6_above_42 (by omega) (by omega) (⟨rfl, rfl⟩)
  · cases c_5
theorem c_mwalks_no (F0 : Nat → Int32) (G : Nat → Int64) (A : Nat → Nat → Int32) (B : Nat → Nat → Int64) (x a : Int32) (hs : ∀ j, j < 8 → x = nI j → A 1 j = nI 0) :
    zCtr yX6_walks cX6_walks 9 (some .long) 2 0 0 [zr 1 0, zi x, zi a] [zH, zG F0 G A B] (fun r w => r = some (zl 0) ∧ w = [zH, zG (upd F0 0 (nI 1)) G A B]) zNx := by
  refine z_start (by decide) [some (zr 1 0), some (zi x), some (zi a), none, none, none, none, none, none] rfl (fun _ => Nat.le_of_ble_eq_true rfl) (fun _ => rfl) (fun X F E hno hin => ?_)
  refine z_aload_n F dX6_walks_0 rfl ?_
  refine z_iload_n F dX6_walks_1 rfl ?_
  refine z_callV F (c_lays_no _ _ _ _ x hs) 1 rfl (lw_V q1732 q1734 qs42 q117 q1735) (by decide +kernel) ⟨Nat.le_of_ble_eq_true rfl, Nat.le_of_ble_eq_true rfl⟩ ⟨by omega, by omega⟩ [0, 1] 2 ⟨rfl, rfl, rfl, ⟨Or.inl rfl, Or.inr rfl, trivial⟩⟩ (fun h => nomatch h) (Nat.le_of_ble_eq_true rfl) ⟨⟨Or.inr trivial, Or.inl rfl, trivial⟩, rfl, rfl, rfl, Nat.le_of_ble_eq_true rfl⟩ rfl zC6 (zat_G0 rfl) rfl dX6_walks_2 (fun r_2 w_2 hp => ?_) (fun _ _ h => h.elim)
  obtain ⟨rfl, rfl⟩ := hp
  refine z_weq (w' := [zH, zG _ _ _ _]) rfl ?_
  refine z_seq (S' := zi _ :: _) rfl ?_
  refine z_if_eqB F (tgt := 23) dX6_walks_5 (by decide) (fun c_5 => ?_) (fun c_5 => ?_)
  · refine z_lconst F 0 dX6_walks_23 rfl ?_
    exact z_lret F E rfl dX6_walks_24 (by omega) (by omega) (⟨rfl, rfl⟩)
  · cases c_5
theorem c_mchange_no (F0 : Nat → Int32) (G : Nat → Int64) (A : Nat → Nat → Int32) (B : Nat → Nat → Int64) (x a b c : Int32) (hs : ∀ j, j < 8 → x = nI j → A 1 j = nI 0) :
    zCtr yX6_change cX6_change 5 (some .boolean) 2 0 0 [zr 1 0, zi x, zi a, zi b, zi c] [zH, zG F0 G A B] (fun r w => r = some (zi (nI 0)) ∧ w = [zH, zG (upd F0 0 (nI 1)) G A B]) zNx := by
  refine z_start (by decide) [some (zr 1 0), some (zi x), some (zi a), some (zi b), some (zi c)] rfl (fun _ => Nat.le_of_ble_eq_true rfl) (fun _ => rfl) (fun X F E hno hin => ?_)
  refine z_aload_n F dX6_change_0 rfl ?_
  refine z_iload_n F dX6_change_1 rfl ?_
  refine z_callV F (c_lays_no _ _ _ _ x hs) 1 rfl (lw_V q1732 q1734 qs42 q117 q1735) (by decide +kernel) ⟨Nat.le_of_ble_eq_true rfl, Nat.le_of_ble_eq_true rfl⟩ ⟨by omega, by omega⟩ [0, 1] 2 ⟨rfl, rfl, rfl, ⟨Or.inl rfl, Or.inr rfl, trivial⟩⟩ (fun h => nomatch h) (Nat.le_of_ble_eq_true rfl) ⟨⟨Or.inr trivial, Or.inl rfl, trivial⟩, rfl, rfl, rfl, Nat.le_of_ble_eq_true rfl⟩ rfl zC6 (zat_G0 rfl) rfl dX6_change_2 (fun r_2 w_2 hp => ?_) (fun _ _ h => h.elim)
  obtain ⟨rfl, rfl⟩ := hp
  refine z_weq (w' := [zH, zG _ _ _ _]) rfl ?_
  refine z_seq (S' := zi _ :: _) rfl ?_
  refine z_if_neB F (tgt := 10) dX6_change_5 (by decide) (fun c_5 => ?_) (fun c_5 => ?_)
  · cases c_5
  · refine z_iconst F (nI 0) dX6_change_8 rfl ?_
    exact z_zret F E rfl rfl dX6_change_9 (by omega) (by omega) (⟨rfl, rfl⟩)
theorem c_mbetter_no (F0 : Nat → Int32) (G : Nat → Int64) (A : Nat → Nat → Int32) (B : Nat → Nat → Int64) (x : Int32) (hs : ∀ j, j < 8 → x = nI j → A 1 j = nI 0) :
    zCtr yX6_better cX6_better 3 (some .int) 2 0 0 [zr 1 0, zi x] [zH, zG F0 G A B] (fun r w => r = some (zi (nI 0)) ∧ w = [zH, zG (upd F0 0 (nI 1)) G A B]) zNx := by
  refine z_start (by decide) [some (zr 1 0), some (zi x), none] rfl (fun _ => Nat.le_of_ble_eq_true rfl) (fun _ => rfl) (fun X F E hno hin => ?_)
  refine z_aload_n F dX6_better_0 rfl ?_
  refine z_iload_n F dX6_better_1 rfl ?_
  refine z_callV F (c_lays_no _ _ _ _ x hs) 1 rfl (lw_V q1732 q1734 qs42 q117 q1735) (by decide +kernel) ⟨Nat.le_of_ble_eq_true rfl, Nat.le_of_ble_eq_true rfl⟩ ⟨by omega, by omega⟩ [0, 1] 2 ⟨rfl, rfl, rfl, ⟨Or.inl rfl, Or.inr rfl, trivial⟩⟩ (fun h => nomatch h) (Nat.le_of_ble_eq_true rfl) ⟨⟨Or.inr trivial, Or.inl rfl, trivial⟩, rfl, rfl, rfl, Nat.le_of_ble_eq_true rfl⟩ rfl zC6 (zat_G0 rfl) rfl dX6_better_2 (fun r_2 w_2 hp => ?_) (fun _ _ h => h.elim)
  obtain ⟨rfl, rfl⟩ := hp
  refine z_weq (w' := [zH, zG _ _ _ _]) rfl ?_
  refine z_seq (S' := zi _ :: _) rfl ?_
  refine z_if_neB F (tgt := 10) dX6_better_5 (by decide) (fun c_5 => ?_) (fun c_5 => ?_)
  · cases c_5
  · refine z_iconst F (nI 0) dX6_better_8 rfl ?_
    exact z_iret F E rfl dX6_better_9 (by omega) (by omega) (⟨rfl, rfl⟩)
theorem c_mcool_no (F0 : Nat → Int32) (G : Nat → Int64) (A : Nat → Nat → Int32) (B : Nat → Nat → Int64) (x a b c : Int32) (hs : ∀ j, j < 8 → x = nI j → A 1 j = nI 0) :
    zCtr yX6_cool cX6_cool 15 (some .int) 2 0 0 [zr 1 0, zi x, zi a, zi b, zi c] [zH, zG F0 G A B] (fun r w => r = some (zi (nI 0)) ∧ w = [zH, zG (upd F0 0 (nI 1)) G A B]) zNx := by
  refine z_start (by decide) [some (zr 1 0), some (zi x), some (zi a), some (zi b), some (zi c), none, none, none, none, none, none, none, none, none, none] rfl (fun _ => Nat.le_of_ble_eq_true rfl) (fun _ => rfl) (fun X F E hno hin => ?_)
  refine z_aload_n F dX6_cool_0 rfl ?_
  refine z_iload_n F dX6_cool_1 rfl ?_
  refine z_callV F (c_lays_no _ _ _ _ x hs) 1 rfl (lw_V q1732 q1734 qs42 q117 q1735) (by decide +kernel) ⟨Nat.le_of_ble_eq_true rfl, Nat.le_of_ble_eq_true rfl⟩ ⟨by omega, by omega⟩ [0, 1] 2 ⟨rfl, rfl, rfl, ⟨Or.inl rfl, Or.inr rfl, trivial⟩⟩ (fun h => nomatch h) (Nat.le_of_ble_eq_true rfl) ⟨⟨Or.inr trivial, Or.inl rfl, trivial⟩, rfl, rfl, rfl, Nat.le_of_ble_eq_true rfl⟩ rfl zC6 (zat_G0 rfl) rfl dX6_cool_2 (fun r_2 w_2 hp => ?_) (fun _ _ h => h.elim)
  obtain ⟨rfl, rfl⟩ := hp
  refine z_weq (w' := [zH, zG _ _ _ _]) rfl ?_
  refine z_seq (S' := zi _ :: _) rfl ?_
  refine z_if_eqB F (tgt := 44) dX6_cool_5 (by decide) (fun c_5 => ?_) (fun c_5 => ?_)
  · refine z_iconst F (nI 0) dX6_cool_44 rfl ?_
    exact z_iret F E rfl dX6_cool_45 (by omega) (by omega) (⟨rfl, rfl⟩)
  · cases c_5
theorem c_mfalls_no (F0 : Nat → Int32) (G : Nat → Int64) (A : Nat → Nat → Int32) (B : Nat → Nat → Int64) (x a b : Int32) (hs : ∀ j, j < 8 → x = nI j → A 1 j = nI 0) :
    zCtr yX6_falls cX6_falls 9 (some .int) 2 0 0 [zr 1 0, zi x, zi a, zi b] [zH, zG F0 G A B] (fun r w => r = some (zi (nI 0)) ∧ w = [zH, zG (upd F0 0 (nI 1)) G A B]) zNx := by
  refine z_start (by decide) [some (zr 1 0), some (zi x), some (zi a), some (zi b), none, none, none, none, none] rfl (fun _ => Nat.le_of_ble_eq_true rfl) (fun _ => rfl) (fun X F E hno hin => ?_)
  refine z_aload_n F dX6_falls_0 rfl ?_
  refine z_iload_n F dX6_falls_1 rfl ?_
  refine z_callV F (c_lays_no _ _ _ _ x hs) 1 rfl (lw_V q1732 q1734 qs42 q117 q1735) (by decide +kernel) ⟨Nat.le_of_ble_eq_true rfl, Nat.le_of_ble_eq_true rfl⟩ ⟨by omega, by omega⟩ [0, 1] 2 ⟨rfl, rfl, rfl, ⟨Or.inl rfl, Or.inr rfl, trivial⟩⟩ (fun h => nomatch h) (Nat.le_of_ble_eq_true rfl) ⟨⟨Or.inr trivial, Or.inl rfl, trivial⟩, rfl, rfl, rfl, Nat.le_of_ble_eq_true rfl⟩ rfl zC6 (zat_G0 rfl) rfl dX6_falls_2 (fun r_2 w_2 hp => ?_) (fun _ _ h => h.elim)
  obtain ⟨rfl, rfl⟩ := hp
  refine z_weq (w' := [zH, zG _ _ _ _]) rfl ?_
  refine z_seq (S' := zi _ :: _) rfl ?_
  refine z_if_eqB F (tgt := 44) dX6_falls_5 (by decide) (fun c_5 => ?_) (fun c_5 => ?_)
  · refine z_iconst F (nI 0) dX6_falls_44 rfl ?_
    exact z_iret F E rfl dX6_falls_45 (by omega) (by omega) (⟨rfl, rfl⟩)
  · cases c_5
theorem c_mhalves_no (F0 : Nat → Int32) (G : Nat → Int64) (A : Nat → Nat → Int32) (B : Nat → Nat → Int64) (x : Int32) (hs : ∀ j, j < 8 → x = nI j → A 1 j = nI 0) :
    zCtr yX6_halves cX6_halves 6 (some .int) 2 0 0 [zr 1 0, zi x] [zH, zG F0 G A B] (fun r w => r = some (zi (nI 0)) ∧ w = [zH, zG (upd F0 0 (nI 1)) G A B]) zNx := by
  refine z_start (by decide) [some (zr 1 0), some (zi x), none, none, none, none] rfl (fun _ => Nat.le_of_ble_eq_true rfl) (fun _ => rfl) (fun X F E hno hin => ?_)
  refine z_aload_n F dX6_halves_0 rfl ?_
  refine z_iload_n F dX6_halves_1 rfl ?_
  refine z_callV F (c_lays_no _ _ _ _ x hs) 1 rfl (lw_V q1732 q1734 qs42 q117 q1735) (by decide +kernel) ⟨Nat.le_of_ble_eq_true rfl, Nat.le_of_ble_eq_true rfl⟩ ⟨by omega, by omega⟩ [0, 1] 2 ⟨rfl, rfl, rfl, ⟨Or.inl rfl, Or.inr rfl, trivial⟩⟩ (fun h => nomatch h) (Nat.le_of_ble_eq_true rfl) ⟨⟨Or.inr trivial, Or.inl rfl, trivial⟩, rfl, rfl, rfl, Nat.le_of_ble_eq_true rfl⟩ rfl zC6 (zat_G0 rfl) rfl dX6_halves_2 (fun r_2 w_2 hp => ?_) (fun _ _ h => h.elim)
  obtain ⟨rfl, rfl⟩ := hp
  refine z_weq (w' := [zH, zG _ _ _ _]) rfl ?_
  refine z_seq (S' := zi _ :: _) rfl ?_
  refine z_if_neB F (tgt := 10) dX6_halves_5 (by decide) (fun c_5 => ?_) (fun c_5 => ?_)
  · cases c_5
  · refine z_iconst F (nI 0) dX6_halves_8 rfl ?_
    exact z_iret F E rfl dX6_halves_9 (by omega) (by omega) (⟨rfl, rfl⟩)
theorem c_mlay_no (F0 : Nat → Int32) (G : Nat → Int64) (A : Nat → Nat → Int32) (B : Nat → Nat → Int64) (x a : Int32) (hs : ∀ j, j < 8 → x = nI j → A 1 j = nI 0) :
    zCtr yX6_lay cX6_lay 5 (some .int) 2 0 0 [zr 1 0, zi x, zi a] [zH, zG F0 G A B] (fun r w => r = some (zi (nI 0)) ∧ w = [zH, zG (upd F0 0 (nI 1)) G A B]) zNx := by
  refine z_start (by decide) [some (zr 1 0), some (zi x), some (zi a), none, none] rfl (fun _ => Nat.le_of_ble_eq_true rfl) (fun _ => rfl) (fun X F E hno hin => ?_)
  refine z_aload_n F dX6_lay_0 rfl ?_
  refine z_iload_n F dX6_lay_1 rfl ?_
  refine z_callV F (c_lays_no _ _ _ _ x hs) 1 rfl (lw_V q1732 q1734 qs42 q117 q1735) (by decide +kernel) ⟨Nat.le_of_ble_eq_true rfl, Nat.le_of_ble_eq_true rfl⟩ ⟨by omega, by omega⟩ [0, 1] 2 ⟨rfl, rfl, rfl, ⟨Or.inl rfl, Or.inr rfl, trivial⟩⟩ (fun h => nomatch h) (Nat.le_of_ble_eq_true rfl) ⟨⟨Or.inr trivial, Or.inl rfl, trivial⟩, rfl, rfl, rfl, Nat.le_of_ble_eq_true rfl⟩ rfl zC6 (zat_G0 rfl) rfl dX6_lay_2 (fun r_2 w_2 hp => ?_) (fun _ _ h => h.elim)
  obtain ⟨rfl, rfl⟩ := hp
  refine z_weq (w' := [zH, zG _ _ _ _]) rfl ?_
  refine z_seq (S' := zi _ :: _) rfl ?_
  refine z_if_eqB F (tgt := 23) dX6_lay_5 (by decide) (fun c_5 => ?_) (fun c_5 => ?_)
  · refine z_iconst F (nI 0) dX6_lay_23 rfl ?_
    exact z_iret F E rfl dX6_lay_24 (by omega) (by omega) (⟨rfl, rfl⟩)
  · cases c_5
theorem c_mhop_no (F0 : Nat → Int32) (G : Nat → Int64) (A : Nat → Nat → Int32) (B : Nat → Nat → Int64) (x a b : Int32) (hs : ∀ j, j < 8 → x = nI j → A 1 j = nI 0) :
    zCtr yX6_hop cX6_hop 4 (some .int) 2 0 0 [zr 1 0, zi x, zi a, zi b] [zH, zG F0 G A B] (fun r w => r = some (zi (nI 0)) ∧ w = [zH, zG (upd F0 0 (nI 1)) G A B]) zNx := by
  refine z_start (by decide) [some (zr 1 0), some (zi x), some (zi a), some (zi b)] rfl (fun _ => Nat.le_of_ble_eq_true rfl) (fun _ => rfl) (fun X F E hno hin => ?_)
  refine z_aload_n F dX6_hop_0 rfl ?_
  refine z_iload_n F dX6_hop_1 rfl ?_
  refine z_callV F (c_lays_no _ _ _ _ x hs) 1 rfl (lw_V q1732 q1734 qs42 q117 q1735) (by decide +kernel) ⟨Nat.le_of_ble_eq_true rfl, Nat.le_of_ble_eq_true rfl⟩ ⟨by omega, by omega⟩ [0, 1] 2 ⟨rfl, rfl, rfl, ⟨Or.inl rfl, Or.inr rfl, trivial⟩⟩ (fun h => nomatch h) (Nat.le_of_ble_eq_true rfl) ⟨⟨Or.inr trivial, Or.inl rfl, trivial⟩, rfl, rfl, rfl, Nat.le_of_ble_eq_true rfl⟩ rfl zC6 (zat_G0 rfl) rfl dX6_hop_2 (fun r_2 w_2 hp => ?_) (fun _ _ h => h.elim)
  obtain ⟨rfl, rfl⟩ := hp
  refine z_weq (w' := [zH, zG _ _ _ _]) rfl ?_
  refine z_seq (S' := zi _ :: _) rfl ?_
  refine z_if_eqB F (tgt := 17) dX6_hop_5 (by decide) (fun c_5 => ?_) (fun c_5 => ?_)
  · refine z_iconst F (nI 0) dX6_hop_17 rfl ?_
    exact z_iret F E rfl dX6_hop_18 (by omega) (by omega) (⟨rfl, rfl⟩)
  · cases c_5
theorem c_mhop_kn (F0 : Nat → Int32) (G : Nat → Int64) (A : Nat → Nat → Int32) (B : Nat → Nat → Int64) (j n : Nat) (d : Int32) (f : Nat → Int32) (a b : Int32) (hj : j < 8) (hn : 0 < n) (hn2 : n ≤ 24) (hs : Slt A j n d f) (hk : (knB n a && knB n b) = false) :
    zCtr yX6_hop cX6_hop 4 (some .int) 2 0 0 [zr 1 0, zi (nI j), zi a, zi b] [zH, zG F0 G A B] (fun r w => r = some (zi (nI 0)) ∧ ∃ F' A', w = [zH, zG F' G A' B] ∧ F' 0 = nI 1 ∧ frm [0, 4, 5] F0 F' ∧ frm [6] A A') zNx := by
  refine z_start (by decide) [some (zr 1 0), some (zi (nI j)), some (zi a), some (zi b)] rfl (fun _ => Nat.le_of_ble_eq_true rfl) (fun _ => rfl) (fun X F E hno hin => ?_)
  refine z_aload_n F dX6_hop_0 rfl ?_
  refine z_iload_n F dX6_hop_1 rfl ?_
  refine z_callV F (c_lays_ok _ _ _ _ j n d f hj hn hn2 hs) 1 rfl (lw_V q1732 q1734 qs42 q117 q1735) (by decide +kernel) ⟨Nat.le_of_ble_eq_true rfl, Nat.le_of_ble_eq_true rfl⟩ ⟨by omega, by omega⟩ [0, 1] 2 ⟨rfl, rfl, rfl, ⟨Or.inl rfl, Or.inr rfl, trivial⟩⟩ (fun h => nomatch h) (Nat.le_of_ble_eq_true rfl) ⟨⟨Or.inr trivial, Or.inl rfl, trivial⟩, rfl, rfl, rfl, Nat.le_of_ble_eq_true rfl⟩ rfl zC6 (zat_G0 rfl) rfl dX6_hop_2 (fun r_2 w_2 hp => ?_) (fun _ _ h => h.elim)
  obtain ⟨rfl, F1, A1, rfl, f0, f1, f2, f3⟩ := hp
  refine z_weq (w' := [zH, zG _ _ _ _]) rfl ?_
  refine z_seq (S' := zi _ :: _) rfl ?_
  refine z_if_eqB F (tgt := 17) dX6_hop_5 (by decide) (fun c_5 => ?_) (fun c_5 => ?_)
  · cases c_5
  · refine z_aload_n F dX6_hop_8 rfl ?_
    refine z_iload_n F dX6_hop_9 rfl ?_
    refine z_iload_n F dX6_hop_10 rfl ?_
    refine z_callV F (c_mhas _ _ _ _ n a b f0 f3.1) 2 rfl (lw_V q1740 q1742 qs44 q117 q1743) (by decide +kernel) ⟨Nat.le_of_ble_eq_true rfl, Nat.le_of_ble_eq_true rfl⟩ ⟨by omega, by omega⟩ [0, 1] 2 ⟨rfl, rfl, rfl, ⟨Or.inl rfl, Or.inr rfl, trivial⟩⟩ (fun h => nomatch h) (Nat.le_of_ble_eq_true rfl) ⟨⟨Or.inr trivial, Or.inl rfl, trivial⟩, rfl, rfl, rfl, Nat.le_of_ble_eq_true rfl⟩ rfl zC6 (zat_G0 rfl) rfl dX6_hop_11 (fun r_11 w_11 hp => ?_) (fun _ _ h => h.elim)
    obtain ⟨rfl, rfl⟩ := hp
    refine z_weq (w' := [zH, zG _ _ _ _]) rfl ?_
    refine z_seq (S' := zi _ :: _) rfl ?_
    refine z_if_neB F (tgt := 19) dX6_hop_14 (by decide) (fun c_14 => ?_) (fun c_14 => ?_)
    · rw [hk] at c_14; cases c_14
    · refine z_iconst F (nI 0) dX6_hop_17 rfl ?_
      exact z_iret F E rfl dX6_hop_18 (by omega) (by omega) (⟨rfl, _, _, rfl, by rw [hk, if_neg (by decide)]; rfl, by rw [hk, if_neg (by decide)]; exact frm_upd f1 (by decide), f2⟩)
theorem c_mlocks_no (F0 : Nat → Int32) (G : Nat → Int64) (A : Nat → Nat → Int32) (B : Nat → Nat → Int64) (x : Int32) (hs : ∀ j, j < 8 → x = nI j → A 1 j = nI 0) :
    zCtr yX6_locks cX6_locks 7 (some .boolean) 2 0 0 [zr 1 0, zi x] [zH, zG F0 G A B] (fun r w => r = some (zi (nI 0)) ∧ w = [zH, zG (upd F0 0 (nI 1)) G A B]) zNx := by
  refine z_start (by decide) [some (zr 1 0), some (zi x), none, none, none, none, none] rfl (fun _ => Nat.le_of_ble_eq_true rfl) (fun _ => rfl) (fun X F E hno hin => ?_)
  refine z_aload_n F dX6_locks_0 rfl ?_
  refine z_iload_n F dX6_locks_1 rfl ?_
  refine z_callV F (c_lays_no _ _ _ _ x hs) 1 rfl (lw_V q1732 q1734 qs42 q117 q1735) (by decide +kernel) ⟨Nat.le_of_ble_eq_true rfl, Nat.le_of_ble_eq_true rfl⟩ ⟨by omega, by omega⟩ [0, 1] 2 ⟨rfl, rfl, rfl, ⟨Or.inl rfl, Or.inr rfl, trivial⟩⟩ (fun h => nomatch h) (Nat.le_of_ble_eq_true rfl) ⟨⟨Or.inr trivial, Or.inl rfl, trivial⟩, rfl, rfl, rfl, Nat.le_of_ble_eq_true rfl⟩ rfl zC6 (zat_G0 rfl) rfl dX6_locks_2 (fun r_2 w_2 hp => ?_) (fun _ _ h => h.elim)
  obtain ⟨rfl, rfl⟩ := hp
  refine z_weq (w' := [zH, zG _ _ _ _]) rfl ?_
  refine z_seq (S' := zi _ :: _) rfl ?_
  refine z_if_neB F (tgt := 10) dX6_locks_5 (by decide) (fun c_5 => ?_) (fun c_5 => ?_)
  · cases c_5
  · refine z_iconst F (nI 0) dX6_locks_8 rfl ?_
    exact z_zret F E rfl rfl dX6_locks_9 (by omega) (by omega) (⟨rfl, rfl⟩)
theorem c_mload_no (F0 : Nat → Int32) (G : Nat → Int64) (A : Nat → Nat → Int32) (B : Nat → Nat → Int64) (x a b : Int32) (hs : ∀ j, j < 8 → x = nI j → A 1 j = nI 0) :
    zCtr yX6_load cX6_load 4 (some .int) 2 0 0 [zr 1 0, zi x, zi a, zi b] [zH, zG F0 G A B] (fun r w => r = some (zi (nI 0)) ∧ w = [zH, zG (upd F0 0 (nI 1)) G A B]) zNx := by
  refine z_start (by decide) [some (zr 1 0), some (zi x), some (zi a), some (zi b)] rfl (fun _ => Nat.le_of_ble_eq_true rfl) (fun _ => rfl) (fun X F E hno hin => ?_)
  refine z_aload_n F dX6_load_0 rfl ?_
  refine z_iload_n F dX6_load_1 rfl ?_
  refine z_callV F (c_lays_no _ _ _ _ x hs) 1 rfl (lw_V q1732 q1734 qs42 q117 q1735) (by decide +kernel) ⟨Nat.le_of_ble_eq_true rfl, Nat.le_of_ble_eq_true rfl⟩ ⟨by omega, by omega⟩ [0, 1] 2 ⟨rfl, rfl, rfl, ⟨Or.inl rfl, Or.inr rfl, trivial⟩⟩ (fun h => nomatch h) (Nat.le_of_ble_eq_true rfl) ⟨⟨Or.inr trivial, Or.inl rfl, trivial⟩, rfl, rfl, rfl, Nat.le_of_ble_eq_true rfl⟩ rfl zC6 (zat_G0 rfl) rfl dX6_load_2 (fun r_2 w_2 hp => ?_) (fun _ _ h => h.elim)
  obtain ⟨rfl, rfl⟩ := hp
  refine z_weq (w' := [zH, zG _ _ _ _]) rfl ?_
  refine z_seq (S' := zi _ :: _) rfl ?_
  refine z_if_eqB F (tgt := 17) dX6_load_5 (by decide) (fun c_5 => ?_) (fun c_5 => ?_)
  · refine z_iconst F (nI 0) dX6_load_17 rfl ?_
    exact z_iret F E rfl dX6_load_18 (by omega) (by omega) (⟨rfl, rfl⟩)
  · cases c_5
theorem c_mload_kn (F0 : Nat → Int32) (G : Nat → Int64) (A : Nat → Nat → Int32) (B : Nat → Nat → Int64) (j n : Nat) (d : Int32) (f : Nat → Int32) (a b : Int32) (hj : j < 8) (hn : 0 < n) (hn2 : n ≤ 24) (hs : Slt A j n d f) (hk : (knB n a && knB n b) = false) :
    zCtr yX6_load cX6_load 4 (some .int) 2 0 0 [zr 1 0, zi (nI j), zi a, zi b] [zH, zG F0 G A B] (fun r w => r = some (zi (nI 0)) ∧ ∃ F' A', w = [zH, zG F' G A' B] ∧ F' 0 = nI 1 ∧ frm [0, 4, 5] F0 F' ∧ frm [6] A A') zNx := by
  refine z_start (by decide) [some (zr 1 0), some (zi (nI j)), some (zi a), some (zi b)] rfl (fun _ => Nat.le_of_ble_eq_true rfl) (fun _ => rfl) (fun X F E hno hin => ?_)
  refine z_aload_n F dX6_load_0 rfl ?_
  refine z_iload_n F dX6_load_1 rfl ?_
  refine z_callV F (c_lays_ok _ _ _ _ j n d f hj hn hn2 hs) 1 rfl (lw_V q1732 q1734 qs42 q117 q1735) (by decide +kernel) ⟨Nat.le_of_ble_eq_true rfl, Nat.le_of_ble_eq_true rfl⟩ ⟨by omega, by omega⟩ [0, 1] 2 ⟨rfl, rfl, rfl, ⟨Or.inl rfl, Or.inr rfl, trivial⟩⟩ (fun h => nomatch h) (Nat.le_of_ble_eq_true rfl) ⟨⟨Or.inr trivial, Or.inl rfl, trivial⟩, rfl, rfl, rfl, Nat.le_of_ble_eq_true rfl⟩ rfl zC6 (zat_G0 rfl) rfl dX6_load_2 (fun r_2 w_2 hp => ?_) (fun _ _ h => h.elim)
  obtain ⟨rfl, F1, A1, rfl, f0, f1, f2, f3⟩ := hp
  refine z_weq (w' := [zH, zG _ _ _ _]) rfl ?_
  refine z_seq (S' := zi _ :: _) rfl ?_
  refine z_if_eqB F (tgt := 17) dX6_load_5 (by decide) (fun c_5 => ?_) (fun c_5 => ?_)
  · cases c_5
  · refine z_aload_n F dX6_load_8 rfl ?_
    refine z_iload_n F dX6_load_9 rfl ?_
    refine z_iload_n F dX6_load_10 rfl ?_
    refine z_callV F (c_mhas _ _ _ _ n a b f0 f3.1) 2 rfl (lw_V q1740 q1742 qs44 q117 q1743) (by decide +kernel) ⟨Nat.le_of_ble_eq_true rfl, Nat.le_of_ble_eq_true rfl⟩ ⟨by omega, by omega⟩ [0, 1] 2 ⟨rfl, rfl, rfl, ⟨Or.inl rfl, Or.inr rfl, trivial⟩⟩ (fun h => nomatch h) (Nat.le_of_ble_eq_true rfl) ⟨⟨Or.inr trivial, Or.inl rfl, trivial⟩, rfl, rfl, rfl, Nat.le_of_ble_eq_true rfl⟩ rfl zC6 (zat_G0 rfl) rfl dX6_load_11 (fun r_11 w_11 hp => ?_) (fun _ _ h => h.elim)
    obtain ⟨rfl, rfl⟩ := hp
    refine z_weq (w' := [zH, zG _ _ _ _]) rfl ?_
    refine z_seq (S' := zi _ :: _) rfl ?_
    refine z_if_neB F (tgt := 19) dX6_load_14 (by decide) (fun c_14 => ?_) (fun c_14 => ?_)
    · rw [hk] at c_14; cases c_14
    · refine z_iconst F (nI 0) dX6_load_17 rfl ?_
      exact z_iret F E rfl dX6_load_18 (by omega) (by omega) (⟨rfl, _, _, rfl, by rw [hk, if_neg (by decide)]; rfl, by rw [hk, if_neg (by decide)]; exact frm_upd f1 (by decide), f2⟩)
theorem c_mheavy_no (F0 : Nat → Int32) (G : Nat → Int64) (A : Nat → Nat → Int32) (B : Nat → Nat → Int64) (x a : Int32) (hs : ∀ j, j < 8 → x = nI j → A 1 j = nI 0) :
    zCtr yX6_heavy cX6_heavy 9 (some .int) 2 0 0 [zr 1 0, zi x, zi a] [zH, zG F0 G A B] (fun r w => r = some (zi (nI 0)) ∧ w = [zH, zG (upd F0 0 (nI 1)) G A B]) zNx := by
  refine z_start (by decide) [some (zr 1 0), some (zi x), some (zi a), none, none, none, none, none, none] rfl (fun _ => Nat.le_of_ble_eq_true rfl) (fun _ => rfl) (fun X F E hno hin => ?_)
  refine z_aload_n F dX6_heavy_0 rfl ?_
  refine z_iload_n F dX6_heavy_1 rfl ?_
  refine z_callV F (c_lays_no _ _ _ _ x hs) 1 rfl (lw_V q1732 q1734 qs42 q117 q1735) (by decide +kernel) ⟨Nat.le_of_ble_eq_true rfl, Nat.le_of_ble_eq_true rfl⟩ ⟨by omega, by omega⟩ [0, 1] 2 ⟨rfl, rfl, rfl, ⟨Or.inl rfl, Or.inr rfl, trivial⟩⟩ (fun h => nomatch h) (Nat.le_of_ble_eq_true rfl) ⟨⟨Or.inr trivial, Or.inl rfl, trivial⟩, rfl, rfl, rfl, Nat.le_of_ble_eq_true rfl⟩ rfl zC6 (zat_G0 rfl) rfl dX6_heavy_2 (fun r_2 w_2 hp => ?_) (fun _ _ h => h.elim)
  obtain ⟨rfl, rfl⟩ := hp
  refine z_weq (w' := [zH, zG _ _ _ _]) rfl ?_
  refine z_seq (S' := zi _ :: _) rfl ?_
  refine z_if_eqB F (tgt := 30) dX6_heavy_5 (by decide) (fun c_5 => ?_) (fun c_5 => ?_)
  · refine z_iconst F (nI 0) dX6_heavy_30 rfl ?_
    exact z_iret F E rfl dX6_heavy_31 (by omega) (by omega) (⟨rfl, rfl⟩)
  · cases c_5
theorem c_mupward_no (F0 : Nat → Int32) (G : Nat → Int64) (A : Nat → Nat → Int32) (B : Nat → Nat → Int64) (x a b : Int32) (hs : ∀ j, j < 8 → x = nI j → A 1 j = nI 0) :
    zCtr yX6_upward cX6_upward 11 (some .int) 2 0 0 [zr 1 0, zi x, zi a, zi b] [zH, zG F0 G A B] (fun r w => r = some (zi (nI 0)) ∧ w = [zH, zG (upd F0 0 (nI 1)) G A B]) zNx := by
  refine z_start (by decide) [some (zr 1 0), some (zi x), some (zi a), some (zi b), none, none, none, none, none, none, none] rfl (fun _ => Nat.le_of_ble_eq_true rfl) (fun _ => rfl) (fun X F E hno hin => ?_)
  refine z_aload_n F dX6_upward_0 rfl ?_
  refine z_iload_n F dX6_upward_1 rfl ?_
  refine z_callV F (c_lays_no _ _ _ _ x hs) 1 rfl (lw_V q1732 q1734 qs42 q117 q1735) (by decide +kernel) ⟨Nat.le_of_ble_eq_true rfl, Nat.le_of_ble_eq_true rfl⟩ ⟨by omega, by omega⟩ [0, 1] 2 ⟨rfl, rfl, rfl, ⟨Or.inl rfl, Or.inr rfl, trivial⟩⟩ (fun h => nomatch h) (Nat.le_of_ble_eq_true rfl) ⟨⟨Or.inr trivial, Or.inl rfl, trivial⟩, rfl, rfl, rfl, Nat.le_of_ble_eq_true rfl⟩ rfl zC6 (zat_G0 rfl) rfl dX6_upward_2 (fun r_2 w_2 hp => ?_) (fun _ _ h => h.elim)
  obtain ⟨rfl, rfl⟩ := hp
  refine z_weq (w' := [zH, zG _ _ _ _]) rfl ?_
  refine z_seq (S' := zi _ :: _) rfl ?_
  refine z_if_eqB F (tgt := 39) dX6_upward_5 (by decide) (fun c_5 => ?_) (fun c_5 => ?_)
  · refine z_iconst F (nI 0) dX6_upward_39 rfl ?_
    exact z_iret F E rfl dX6_upward_40 (by omega) (by omega) (⟨rfl, rfl⟩)
  · cases c_5
theorem c_mupward_kn (F0 : Nat → Int32) (G : Nat → Int64) (A : Nat → Nat → Int32) (B : Nat → Nat → Int64) (j n : Nat) (d : Int32) (f : Nat → Int32) (a b : Int32) (hj : j < 8) (hn : 0 < n) (hn2 : n ≤ 24) (hs : Slt A j n d f) (hk : knB n a = false) :
    zCtr yX6_upward cX6_upward 11 (some .int) 2 0 0 [zr 1 0, zi (nI j), zi a, zi b] [zH, zG F0 G A B] (fun r w => r = some (zi (nI 0)) ∧ ∃ F' A', w = [zH, zG F' G A' B] ∧ F' 0 = nI 1 ∧ frm [0, 4, 5] F0 F' ∧ frm [6] A A') zNx := by
  refine z_start (by decide) [some (zr 1 0), some (zi (nI j)), some (zi a), some (zi b), none, none, none, none, none, none, none] rfl (fun _ => Nat.le_of_ble_eq_true rfl) (fun _ => rfl) (fun X F E hno hin => ?_)
  refine z_aload_n F dX6_upward_0 rfl ?_
  refine z_iload_n F dX6_upward_1 rfl ?_
  refine z_callV F (c_lays_ok _ _ _ _ j n d f hj hn hn2 hs) 1 rfl (lw_V q1732 q1734 qs42 q117 q1735) (by decide +kernel) ⟨Nat.le_of_ble_eq_true rfl, Nat.le_of_ble_eq_true rfl⟩ ⟨by omega, by omega⟩ [0, 1] 2 ⟨rfl, rfl, rfl, ⟨Or.inl rfl, Or.inr rfl, trivial⟩⟩ (fun h => nomatch h) (Nat.le_of_ble_eq_true rfl) ⟨⟨Or.inr trivial, Or.inl rfl, trivial⟩, rfl, rfl, rfl, Nat.le_of_ble_eq_true rfl⟩ rfl zC6 (zat_G0 rfl) rfl dX6_upward_2 (fun r_2 w_2 hp => ?_) (fun _ _ h => h.elim)
  obtain ⟨rfl, F1, A1, rfl, f0, f1, f2, f3⟩ := hp
  refine z_weq (w' := [zH, zG _ _ _ _]) rfl ?_
  refine z_seq (S' := zi _ :: _) rfl ?_
  refine z_if_eqB F (tgt := 39) dX6_upward_5 (by decide) (fun c_5 => ?_) (fun c_5 => ?_)
  · cases c_5
  · refine z_aload_n F dX6_upward_8 rfl ?_
    refine z_iload_n F dX6_upward_9 rfl ?_
    refine z_iload_n F dX6_upward_10 rfl ?_
    refine z_callV F (c_mhas _ _ _ _ n a a f0 f3.1) 2 rfl (lw_V q1740 q1742 qs44 q117 q1743) (by decide +kernel) ⟨Nat.le_of_ble_eq_true rfl, Nat.le_of_ble_eq_true rfl⟩ ⟨by omega, by omega⟩ [0, 1] 2 ⟨rfl, rfl, rfl, ⟨Or.inl rfl, Or.inr rfl, trivial⟩⟩ (fun h => nomatch h) (Nat.le_of_ble_eq_true rfl) ⟨⟨Or.inr trivial, Or.inl rfl, trivial⟩, rfl, rfl, rfl, Nat.le_of_ble_eq_true rfl⟩ rfl zC6 (zat_G0 rfl) rfl dX6_upward_11 (fun r_11 w_11 hp => ?_) (fun _ _ h => h.elim)
    obtain ⟨rfl, rfl⟩ := hp
    rw [Bool.and_self]
    refine z_weq (w' := [zH, zG _ _ _ _]) rfl ?_
    refine z_seq (S' := zi _ :: _) rfl ?_
    refine z_if_eqB F (tgt := 39) dX6_upward_14 (by decide) (fun c_14 => ?_) (fun c_14 => ?_)
    · refine z_iconst F (nI 0) dX6_upward_39 rfl ?_
      exact z_iret F E rfl dX6_upward_40 (by omega) (by omega) (⟨rfl, _, _, rfl, by rw [hk, if_neg (by decide)]; rfl, by rw [hk, if_neg (by decide)]; exact frm_upd f1 (by decide), f2⟩)
    · rw [hk] at c_14; cases c_14
theorem c_mtell_no (F0 : Nat → Int32) (G : Nat → Int64) (A : Nat → Nat → Int32) (B : Nat → Nat → Int64) (x a : Int32) (hs : ∀ j, j < 8 → x = nI j → A 1 j = nI 0) :
    zCtr yX6_tell cX6_tell 8 (some .int) 2 0 0 [zr 1 0, zi x, zi a] [zH, zG F0 G A B] (fun r w => r = some (zi (nI 0)) ∧ w = [zH, zG (upd F0 0 (nI 1)) G A B]) zNx := by
  refine z_start (by decide) [some (zr 1 0), some (zi x), some (zi a), none, none, none, none, none] rfl (fun _ => Nat.le_of_ble_eq_true rfl) (fun _ => rfl) (fun X F E hno hin => ?_)
  refine z_aload_n F dX6_tell_0 rfl ?_
  refine z_iload_n F dX6_tell_1 rfl ?_
  refine z_callV F (c_lays_no _ _ _ _ x hs) 1 rfl (lw_V q1732 q1734 qs42 q117 q1735) (by decide +kernel) ⟨Nat.le_of_ble_eq_true rfl, Nat.le_of_ble_eq_true rfl⟩ ⟨by omega, by omega⟩ [0, 1] 2 ⟨rfl, rfl, rfl, ⟨Or.inl rfl, Or.inr rfl, trivial⟩⟩ (fun h => nomatch h) (Nat.le_of_ble_eq_true rfl) ⟨⟨Or.inr trivial, Or.inl rfl, trivial⟩, rfl, rfl, rfl, Nat.le_of_ble_eq_true rfl⟩ rfl zC6 (zat_G0 rfl) rfl dX6_tell_2 (fun r_2 w_2 hp => ?_) (fun _ _ h => h.elim)
  obtain ⟨rfl, rfl⟩ := hp
  refine z_weq (w' := [zH, zG _ _ _ _]) rfl ?_
  refine z_seq (S' := zi _ :: _) rfl ?_
  refine z_if_eqB F (tgt := 17) dX6_tell_5 (by decide) (fun c_5 => ?_) (fun c_5 => ?_)
  · refine z_iconst F (nI 0) dX6_tell_17 rfl ?_
    exact z_iret F E rfl dX6_tell_18 (by omega) (by omega) (⟨rfl, rfl⟩)
  · cases c_5
theorem c_mtell_kn (F0 : Nat → Int32) (G : Nat → Int64) (A : Nat → Nat → Int32) (B : Nat → Nat → Int64) (j n : Nat) (d : Int32) (f : Nat → Int32) (a : Int32) (hj : j < 8) (hn : 0 < n) (hn2 : n ≤ 24) (hs : Slt A j n d f) (hk : knB n a = false) :
    zCtr yX6_tell cX6_tell 8 (some .int) 2 0 0 [zr 1 0, zi (nI j), zi a] [zH, zG F0 G A B] (fun r w => r = some (zi (nI 0)) ∧ ∃ F' A', w = [zH, zG F' G A' B] ∧ F' 0 = nI 1 ∧ frm [0, 4, 5] F0 F' ∧ frm [6] A A') zNx := by
  refine z_start (by decide) [some (zr 1 0), some (zi (nI j)), some (zi a), none, none, none, none, none] rfl (fun _ => Nat.le_of_ble_eq_true rfl) (fun _ => rfl) (fun X F E hno hin => ?_)
  refine z_aload_n F dX6_tell_0 rfl ?_
  refine z_iload_n F dX6_tell_1 rfl ?_
  refine z_callV F (c_lays_ok _ _ _ _ j n d f hj hn hn2 hs) 1 rfl (lw_V q1732 q1734 qs42 q117 q1735) (by decide +kernel) ⟨Nat.le_of_ble_eq_true rfl, Nat.le_of_ble_eq_true rfl⟩ ⟨by omega, by omega⟩ [0, 1] 2 ⟨rfl, rfl, rfl, ⟨Or.inl rfl, Or.inr rfl, trivial⟩⟩ (fun h => nomatch h) (Nat.le_of_ble_eq_true rfl) ⟨⟨Or.inr trivial, Or.inl rfl, trivial⟩, rfl, rfl, rfl, Nat.le_of_ble_eq_true rfl⟩ rfl zC6 (zat_G0 rfl) rfl dX6_tell_2 (fun r_2 w_2 hp => ?_) (fun _ _ h => h.elim)
  obtain ⟨rfl, F1, A1, rfl, f0, f1, f2, f3⟩ := hp
  refine z_weq (w' := [zH, zG _ _ _ _]) rfl ?_
  refine z_seq (S' := zi _ :: _) rfl ?_
  refine z_if_eqB F (tgt := 17) dX6_tell_5 (by decide) (fun c_5 => ?_) (fun c_5 => ?_)
  · cases c_5
  · refine z_aload_n F dX6_tell_8 rfl ?_
    refine z_iload_n F dX6_tell_9 rfl ?_
    refine z_iload_n F dX6_tell_10 rfl ?_
    refine z_callV F (c_mhas _ _ _ _ n a a f0 f3.1) 2 rfl (lw_V q1740 q1742 qs44 q117 q1743) (by decide +kernel) ⟨Nat.le_of_ble_eq_true rfl, Nat.le_of_ble_eq_true rfl⟩ ⟨by omega, by omega⟩ [0, 1] 2 ⟨rfl, rfl, rfl, ⟨Or.inl rfl, Or.inr rfl, trivial⟩⟩ (fun h => nomatch h) (Nat.le_of_ble_eq_true rfl) ⟨⟨Or.inr trivial, Or.inl rfl, trivial⟩, rfl, rfl, rfl, Nat.le_of_ble_eq_true rfl⟩ rfl zC6 (zat_G0 rfl) rfl dX6_tell_11 (fun r_11 w_11 hp => ?_) (fun _ _ h => h.elim)
    obtain ⟨rfl, rfl⟩ := hp
    rw [Bool.and_self]
    refine z_weq (w' := [zH, zG _ _ _ _]) rfl ?_
    refine z_seq (S' := zi _ :: _) rfl ?_
    refine z_if_neB F (tgt := 19) dX6_tell_14 (by decide) (fun c_14 => ?_) (fun c_14 => ?_)
    · rw [hk] at c_14; cases c_14
    · refine z_iconst F (nI 0) dX6_tell_17 rfl ?_
      exact z_iret F E rfl dX6_tell_18 (by omega) (by omega) (⟨rfl, _, _, rfl, by rw [hk, if_neg (by decide)]; rfl, by rw [hk, if_neg (by decide)]; exact frm_upd f1 (by decide), f2⟩)
theorem c_mgrow_no (F0 : Nat → Int32) (G : Nat → Int64) (A : Nat → Nat → Int32) (B : Nat → Nat → Int64) (x a : Int32) (hs : ∀ j, j < 8 → x = nI j → A 1 j = nI 0) :
    zCtr yX6_grow cX6_grow 9 (some .int) 2 0 0 [zr 1 0, zi x, zi a] [zH, zG F0 G A B] (fun r w => r = some (zi (nI 0)) ∧ w = [zH, zG (upd F0 0 (nI 1)) G A B]) zNx := by
  refine z_start (by decide) [some (zr 1 0), some (zi x), some (zi a), none, none, none, none, none, none] rfl (fun _ => Nat.le_of_ble_eq_true rfl) (fun _ => rfl) (fun X F E hno hin => ?_)
  refine z_aload_n F dX6_grow_0 rfl ?_
  refine z_iload_n F dX6_grow_1 rfl ?_
  refine z_callV F (c_lays_no _ _ _ _ x hs) 1 rfl (lw_V q1732 q1734 qs42 q117 q1735) (by decide +kernel) ⟨Nat.le_of_ble_eq_true rfl, Nat.le_of_ble_eq_true rfl⟩ ⟨by omega, by omega⟩ [0, 1] 2 ⟨rfl, rfl, rfl, ⟨Or.inl rfl, Or.inr rfl, trivial⟩⟩ (fun h => nomatch h) (Nat.le_of_ble_eq_true rfl) ⟨⟨Or.inr trivial, Or.inl rfl, trivial⟩, rfl, rfl, rfl, Nat.le_of_ble_eq_true rfl⟩ rfl zC6 (zat_G0 rfl) rfl dX6_grow_2 (fun r_2 w_2 hp => ?_) (fun _ _ h => h.elim)
  obtain ⟨rfl, rfl⟩ := hp
  refine z_weq (w' := [zH, zG _ _ _ _]) rfl ?_
  refine z_seq (S' := zi _ :: _) rfl ?_
  refine z_if_eqB F (tgt := 31) dX6_grow_5 (by decide) (fun c_5 => ?_) (fun c_5 => ?_)
  · refine z_iconst F (nI 0) dX6_grow_31 rfl ?_
    exact z_iret F E rfl dX6_grow_32 (by omega) (by omega) (⟨rfl, rfl⟩)
  · cases c_5
theorem c_mmissing_no (F0 : Nat → Int32) (G : Nat → Int64) (A : Nat → Nat → Int32) (B : Nat → Nat → Int64) (x : Int32) (hs : ∀ j, j < 8 → x = nI j → A 1 j = nI 0) :
    zCtr yX6_missing cX6_missing 7 (some .int) 2 0 0 [zr 1 0, zi x] [zH, zG F0 G A B] (fun r w => r = some (zi (nI 0)) ∧ w = [zH, zG (upd F0 0 (nI 1)) G A B]) zNx := by
  refine z_start (by decide) [some (zr 1 0), some (zi x), none, none, none, none, none] rfl (fun _ => Nat.le_of_ble_eq_true rfl) (fun _ => rfl) (fun X F E hno hin => ?_)
  refine z_aload_n F dX6_missing_0 rfl ?_
  refine z_iload_n F dX6_missing_1 rfl ?_
  refine z_callV F (c_lays_no _ _ _ _ x hs) 1 rfl (lw_V q1732 q1734 qs42 q117 q1735) (by decide +kernel) ⟨Nat.le_of_ble_eq_true rfl, Nat.le_of_ble_eq_true rfl⟩ ⟨by omega, by omega⟩ [0, 1] 2 ⟨rfl, rfl, rfl, ⟨Or.inl rfl, Or.inr rfl, trivial⟩⟩ (fun h => nomatch h) (Nat.le_of_ble_eq_true rfl) ⟨⟨Or.inr trivial, Or.inl rfl, trivial⟩, rfl, rfl, rfl, Nat.le_of_ble_eq_true rfl⟩ rfl zC6 (zat_G0 rfl) rfl dX6_missing_2 (fun r_2 w_2 hp => ?_) (fun _ _ h => h.elim)
  obtain ⟨rfl, rfl⟩ := hp
  refine z_weq (w' := [zH, zG _ _ _ _]) rfl ?_
  refine z_seq (S' := zi _ :: _) rfl ?_
  refine z_if_neB F (tgt := 10) dX6_missing_5 (by decide) (fun c_5 => ?_) (fun c_5 => ?_)
  · cases c_5
  · refine z_iconst F (nI 0) dX6_missing_8 rfl ?_
    exact z_iret F E rfl dX6_missing_9 (by omega) (by omega) (⟨rfl, rfl⟩)
end C37
