/-! own numbers: the reference's operations -/
section C73
theorem c_mpoly_ok (F0 : Nat → Int32) (G : Nat → Int64) (A : Nat → Nat → Int32) (B : Nat → Nat → Int64) (j n d : Nat) (f : Nat → Int32) (k : Nat) (hj : j < 8) (h : nok n d f) (hs : Slt A j n (nI d) f) (hn : n ≤ 12) (hk : k ≤ n) :
    zCtr yX6_poly cX6_poly 3 (some .long) 2 0 0 [zr 1 0, zi (nI j), zi (nI k)] [zH, zG F0 G A B] (fun r w => r = some (zl ((plS n f n).1 k)) ∧ ∃ F' A' B', w = [zH, zG F' G A' B'] ∧ F' 0 = nI 0 ∧ frm [0, 4, 5] F0 F' ∧ frm [6] A A' ∧ frm [29, 30, 31] B B') zNx := by
  refine z_start (by decide) [some (zr 1 0), some (zi (nI j)), some (zi (nI k))] rfl (fun _ => Nat.le_of_ble_eq_true rfl) (fun _ => rfl) (fun X F E hno hin => ?_)
  have hn1 := h.n1
  refine z_aload_n F dX6_poly_0 rfl ?_
  refine z_iload_n F dX6_poly_1 rfl ?_
  refine z_callV F (c_lays_ok _ _ _ _ j n (nI d) f hj (by omega) h.n24 hs) 1 rfl (lw_V q1732 q1734 qs42 q117 q1735) (by decide +kernel) ⟨Nat.le_of_ble_eq_true rfl, Nat.le_of_ble_eq_true rfl⟩ ⟨by omega, by omega⟩ [0, 1] 2 ⟨rfl, rfl, rfl, ⟨Or.inl rfl, Or.inr rfl, trivial⟩⟩ (fun h => nomatch h) (Nat.le_of_ble_eq_true rfl) ⟨⟨Or.inr trivial, Or.inl rfl, trivial⟩, rfl, rfl, rfl, Nat.le_of_ble_eq_true rfl⟩ rfl zC6 (zat_G0 rfl) rfl dX6_poly_2 (fun r_2 w_2 hp => ?_) (fun _ _ h => h.elim)
  obtain ⟨rfl, F1, A1, rfl, f0, f1, f2, f3⟩ := hp
  refine z_weq (w' := [zH, zG _ _ _ _]) rfl ?_
  refine z_seq (S' := zi _ :: _) rfl ?_
  refine z_if_eqB F (tgt := 55) dX6_poly_5 (by decide) (fun c_5 => ?_) (fun c_5 => ?_)
  · cases c_5
  · refine z_aload_n F dX6_poly_8 rfl ?_
    refine z_iload_n F dX6_poly_9 rfl ?_
    refine z_if_ltN F (by omega) (tgt := 25) dX6_poly_10 (by decide) (fun c_10 => ?_) (fun c_10 => ?_)
    · exact absurd c_10 (by omega)
    · refine z_iload_n F dX6_poly_13 rfl ?_
      refine z_aload_n F dX6_poly_14 rfl ?_
      refine z_mi F rfl 4 rfl (Nat.le_of_ble_eq_true rfl) rfl q1484 dX6_poly_15 ?_
      refine z_ieq (f3.1) ?_
      refine z_icmp_gtN F (by omega) (by omega) (tgt := 25) dX6_poly_18 (by decide) (fun c_18 => ?_) (fun c_18 => ?_)
      · exact absurd c_18 (by omega)
      · refine z_iconstB F true dX6_poly_21 rfl ?_
        refine z_goto F (tgt := 26) dX6_poly_22 (by decide) ?_
        refine z_iconst F (nI 1) dX6_poly_26 rfl ?_
        refine z_callV F (c_right _ _ _ _ true 1 f0 (by omega) (by omega)) 2 rfl (lw_V q1736 q1738 qs43 q117 q1739) (by decide +kernel) ⟨Nat.le_of_ble_eq_true rfl, Nat.le_of_ble_eq_true rfl⟩ ⟨by omega, by omega⟩ [0, 1] 2 ⟨rfl, rfl, rfl, ⟨Or.inl rfl, Or.inr rfl, trivial⟩⟩ (fun h => nomatch h) (Nat.le_of_ble_eq_true rfl) ⟨⟨Or.inr trivial, Or.inl rfl, trivial⟩, rfl, rfl, rfl, Nat.le_of_ble_eq_true rfl⟩ rfl zC6 (zat_G0 rfl) rfl dX6_poly_27 (fun r_27 w_27 hp => ?_) (fun _ _ h => h.elim)
        obtain ⟨rfl, rfl⟩ := hp
        refine z_weq (w' := [zH, zG _ _ _ _]) rfl ?_
        refine z_seq (S' := zi _ :: _) rfl ?_
        refine z_if_eqB F (tgt := 55) dX6_poly_30 (by decide) (fun c_30 => ?_) (fun c_30 => ?_)
        · cases c_30
        · refine z_aload_n F dX6_poly_33 rfl ?_
          refine z_aload_n F dX6_poly_34 rfl ?_
          refine z_mi F rfl 4 rfl (Nat.le_of_ble_eq_true rfl) rfl q1484 dX6_poly_35 ?_
          refine z_ieq (f3.1) ?_
          refine z_bipush F (nI 12) dX6_poly_38 rfl ?_
          refine z_icmp_gtN F (by omega) (by omega) (tgt := 47) dX6_poly_40 (by decide) (fun c_40 => ?_) (fun c_40 => ?_)
          · exact absurd c_40 (by omega)
          · refine z_iconstB F true dX6_poly_43 rfl ?_
            refine z_goto F (tgt := 48) dX6_poly_44 (by decide) ?_
            refine z_iconst F (nI 2) dX6_poly_48 rfl ?_
            refine z_callV F (c_right _ _ _ _ true 2 f0 (by omega) (by omega)) 2 rfl (lw_V q1736 q1738 qs43 q117 q1739) (by decide +kernel) ⟨Nat.le_of_ble_eq_true rfl, Nat.le_of_ble_eq_true rfl⟩ ⟨by omega, by omega⟩ [0, 1] 2 ⟨rfl, rfl, rfl, ⟨Or.inl rfl, Or.inr rfl, trivial⟩⟩ (fun h => nomatch h) (Nat.le_of_ble_eq_true rfl) ⟨⟨Or.inr trivial, Or.inl rfl, trivial⟩, rfl, rfl, rfl, Nat.le_of_ble_eq_true rfl⟩ rfl zC6 (zat_G0 rfl) rfl dX6_poly_49 (fun r_49 w_49 hp => ?_) (fun _ _ h => h.elim)
            obtain ⟨rfl, rfl⟩ := hp
            refine z_weq (w' := [zH, zG _ _ _ _]) rfl ?_
            refine z_seq (S' := zi _ :: _) rfl ?_
            refine z_if_neB F (tgt := 57) dX6_poly_52 (by decide) (fun c_52 => ?_) (fun c_52 => ?_)
            · refine z_aload_n F dX6_poly_57 rfl ?_
              refine z_callV F (c_mpolys F1 _ _ _ n f hn f3.1 (fun k hk => f3.2.2 k (by omega))) 0 rfl (lw_V q1933 q1935 qs73 q117 q1936) (by decide +kernel) ⟨Nat.le_of_ble_eq_true rfl, Nat.le_of_ble_eq_true rfl⟩ ⟨by omega, by omega⟩ [0, 1] 2 ⟨rfl, rfl, rfl, ⟨Or.inl rfl, Or.inr rfl, trivial⟩⟩ (fun h => nomatch h) (Nat.le_of_ble_eq_true rfl) ⟨⟨Or.inr trivial, Or.inl rfl, trivial⟩, rfl, rfl, rfl, Nat.le_of_ble_eq_true rfl⟩ rfl zC6 (zat_G0 rfl) rfl dX6_poly_58 (fun r_58 w_58 hp => ?_) (fun _ _ h => h.elim)
              obtain ⟨rfl, B1, rfl, g1, g2⟩ := hp
              refine z_weq (w' := [zH, zG _ _ _ _]) rfl ?_
              refine z_seq (S' := []) rfl ?_
              refine z_aload_n F dX6_poly_61 rfl ?_
              refine z_ma F rfl 29 rfl (Nat.le_of_ble_eq_true rfl) rfl q1509 dX6_poly_62 ?_
              refine z_iload_n F dX6_poly_65 rfl ?_
              refine z_laldGN F rfl rfl (Nat.le_of_ble_eq_true rfl) (by omega) rfl dX6_poly_66 ?_
              exact z_lret F E rfl dX6_poly_67 (by omega) (by omega) (⟨by rw [g2 k hk], F1, A1, B1, rfl, f0, f1, f2, g1⟩)
            · cases c_52
theorem c_mpoly_big (F0 : Nat → Int32) (G : Nat → Int64) (A : Nat → Nat → Int32) (B : Nat → Nat → Int64) (j n d : Nat) (f : Nat → Int32) (k : Nat) (hj : j < 8) (h : nok n d f) (hs : Slt A j n (nI d) f) (hn : 12 < n) (hk : k ≤ n) :
    zCtr yX6_poly cX6_poly 3 (some .long) 2 0 0 [zr 1 0, zi (nI j), zi (nI k)] [zH, zG F0 G A B] (fun r w => r = some (zl 0) ∧ ∃ F' A', w = [zH, zG F' G A' B] ∧ F' 0 = nI 2 ∧ frm [0, 4, 5] F0 F' ∧ frm [6] A A') zNx := by
  refine z_start (by decide) [some (zr 1 0), some (zi (nI j)), some (zi (nI k))] rfl (fun _ => Nat.le_of_ble_eq_true rfl) (fun _ => rfl) (fun X F E hno hin => ?_)
  have hn1 := h.n1
  have h24 := h.n24
  refine z_aload_n F dX6_poly_0 rfl ?_
  refine z_iload_n F dX6_poly_1 rfl ?_
  refine z_callV F (c_lays_ok _ _ _ _ j n (nI d) f hj (by omega) h.n24 hs) 1 rfl (lw_V q1732 q1734 qs42 q117 q1735) (by decide +kernel) ⟨Nat.le_of_ble_eq_true rfl, Nat.le_of_ble_eq_true rfl⟩ ⟨by omega, by omega⟩ [0, 1] 2 ⟨rfl, rfl, rfl, ⟨Or.inl rfl, Or.inr rfl, trivial⟩⟩ (fun h => nomatch h) (Nat.le_of_ble_eq_true rfl) ⟨⟨Or.inr trivial, Or.inl rfl, trivial⟩, rfl, rfl, rfl, Nat.le_of_ble_eq_true rfl⟩ rfl zC6 (zat_G0 rfl) rfl dX6_poly_2 (fun r_2 w_2 hp => ?_) (fun _ _ h => h.elim)
  obtain ⟨rfl, F1, A1, rfl, f0, f1, f2, f3⟩ := hp
  refine z_weq (w' := [zH, zG _ _ _ _]) rfl ?_
  refine z_seq (S' := zi _ :: _) rfl ?_
  refine z_if_eqB F (tgt := 55) dX6_poly_5 (by decide) (fun c_5 => ?_) (fun c_5 => ?_)
  · cases c_5
  · refine z_aload_n F dX6_poly_8 rfl ?_
    refine z_iload_n F dX6_poly_9 rfl ?_
    refine z_if_ltN F (by omega) (tgt := 25) dX6_poly_10 (by decide) (fun c_10 => ?_) (fun c_10 => ?_)
    · exact absurd c_10 (by omega)
    · refine z_iload_n F dX6_poly_13 rfl ?_
      refine z_aload_n F dX6_poly_14 rfl ?_
      refine z_mi F rfl 4 rfl (Nat.le_of_ble_eq_true rfl) rfl q1484 dX6_poly_15 ?_
      refine z_ieq (f3.1) ?_
      refine z_icmp_gtN F (by omega) (by omega) (tgt := 25) dX6_poly_18 (by decide) (fun c_18 => ?_) (fun c_18 => ?_)
      · exact absurd c_18 (by omega)
      · refine z_iconstB F true dX6_poly_21 rfl ?_
        refine z_goto F (tgt := 26) dX6_poly_22 (by decide) ?_
        refine z_iconst F (nI 1) dX6_poly_26 rfl ?_
        refine z_callV F (c_right _ _ _ _ true 1 f0 (by omega) (by omega)) 2 rfl (lw_V q1736 q1738 qs43 q117 q1739) (by decide +kernel) ⟨Nat.le_of_ble_eq_true rfl, Nat.le_of_ble_eq_true rfl⟩ ⟨by omega, by omega⟩ [0, 1] 2 ⟨rfl, rfl, rfl, ⟨Or.inl rfl, Or.inr rfl, trivial⟩⟩ (fun h => nomatch h) (Nat.le_of_ble_eq_true rfl) ⟨⟨Or.inr trivial, Or.inl rfl, trivial⟩, rfl, rfl, rfl, Nat.le_of_ble_eq_true rfl⟩ rfl zC6 (zat_G0 rfl) rfl dX6_poly_27 (fun r_27 w_27 hp => ?_) (fun _ _ h => h.elim)
        obtain ⟨rfl, rfl⟩ := hp
        refine z_weq (w' := [zH, zG _ _ _ _]) rfl ?_
        refine z_seq (S' := zi _ :: _) rfl ?_
        refine z_if_eqB F (tgt := 55) dX6_poly_30 (by decide) (fun c_30 => ?_) (fun c_30 => ?_)
        · cases c_30
        · refine z_aload_n F dX6_poly_33 rfl ?_
          refine z_aload_n F dX6_poly_34 rfl ?_
          refine z_mi F rfl 4 rfl (Nat.le_of_ble_eq_true rfl) rfl q1484 dX6_poly_35 ?_
          refine z_ieq (f3.1) ?_
          refine z_bipush F (nI 12) dX6_poly_38 rfl ?_
          refine z_icmp_gtN F (by omega) (by omega) (tgt := 47) dX6_poly_40 (by decide) (fun c_40 => ?_) (fun c_40 => ?_)
          · refine z_iconstB F false dX6_poly_47 rfl ?_
            refine z_iconst F (nI 2) dX6_poly_48 rfl ?_
            refine z_callV F (c_right _ _ _ _ false 2 f0 (by omega) (by omega)) 2 rfl (lw_V q1736 q1738 qs43 q117 q1739) (by decide +kernel) ⟨Nat.le_of_ble_eq_true rfl, Nat.le_of_ble_eq_true rfl⟩ ⟨by omega, by omega⟩ [0, 1] 2 ⟨rfl, rfl, rfl, ⟨Or.inl rfl, Or.inr rfl, trivial⟩⟩ (fun h => nomatch h) (Nat.le_of_ble_eq_true rfl) ⟨⟨Or.inr trivial, Or.inl rfl, trivial⟩, rfl, rfl, rfl, Nat.le_of_ble_eq_true rfl⟩ rfl zC6 (zat_G0 rfl) rfl dX6_poly_49 (fun r_49 w_49 hp => ?_) (fun _ _ h => h.elim)
            obtain ⟨rfl, rfl⟩ := hp
            refine z_weq (w' := [zH, zG _ _ _ _]) rfl ?_
            refine z_seq (S' := zi _ :: _) rfl ?_
            refine z_if_neB F (tgt := 57) dX6_poly_52 (by decide) (fun c_52 => ?_) (fun c_52 => ?_)
            · cases c_52
            · refine z_lconst F 0 dX6_poly_55 rfl ?_
              exact z_lret F E rfl dX6_poly_56 (by omega) (by omega) (⟨rfl, _, A1, rfl, rfl, frm_upd f1 (by decide), f2⟩)
          · exact absurd c_40 (by omega)
theorem c_mpoly_bad (F0 : Nat → Int32) (G : Nat → Int64) (A : Nat → Nat → Int32) (B : Nat → Nat → Int64) (j n d : Nat) (f : Nat → Int32) (x : Int32) (hj : j < 8) (h : nok n d f) (hs : Slt A j n (nI d) f) (hx : inB x (nI 0) (nI n) = false) :
    zCtr yX6_poly cX6_poly 3 (some .long) 2 0 0 [zr 1 0, zi (nI j), zi x] [zH, zG F0 G A B] (fun r w => r = some (zl 0) ∧ ∃ F' A', w = [zH, zG F' G A' B] ∧ F' 0 = nI 1 ∧ frm [0, 4, 5] F0 F' ∧ frm [6] A A') zNx := by
  refine z_start (by decide) [some (zr 1 0), some (zi (nI j)), some (zi x)] rfl (fun _ => Nat.le_of_ble_eq_true rfl) (fun _ => rfl) (fun X F E hno hin => ?_)
  have hn1 := h.n1
  have J : ∀ (F1 : Nat → Int32) (A1 : Nat → Nat → Int32), F1 0 = nI 0 → frm [0, 4, 5] F0 F1 → frm [6] A A1 → Z X [some (zr 1 0), some (zi (nI j)), some (zi x)] [zi (bI false), zr 1 0] [zH, zG F1 G A1 B] 0 0 26 := by
    intro F1 A1 f0 f1 f2
    refine z_iconst F (nI 1) dX6_poly_26 rfl ?_
    refine z_callV F (c_right _ _ _ _ false 1 f0 (by omega) (by omega)) 2 rfl (lw_V q1736 q1738 qs43 q117 q1739) (by decide +kernel) ⟨Nat.le_of_ble_eq_true rfl, Nat.le_of_ble_eq_true rfl⟩ ⟨by omega, by omega⟩ [0, 1] 2 ⟨rfl, rfl, rfl, ⟨Or.inl rfl, Or.inr rfl, trivial⟩⟩ (fun h => nomatch h) (Nat.le_of_ble_eq_true rfl) ⟨⟨Or.inr trivial, Or.inl rfl, trivial⟩, rfl, rfl, rfl, Nat.le_of_ble_eq_true rfl⟩ rfl zC6 (zat_G0 rfl) rfl dX6_poly_27 (fun r_27 w_27 hp => ?_) (fun _ _ h => h.elim)
    obtain ⟨rfl, rfl⟩ := hp
    refine z_weq (w' := [zH, zG _ _ _ _]) rfl ?_
    refine z_seq (S' := zi _ :: _) rfl ?_
    refine z_if_eqB F (tgt := 55) dX6_poly_30 (by decide) (fun c_30 => ?_) (fun c_30 => ?_)
    · refine z_lconst F 0 dX6_poly_55 rfl ?_
      exact z_lret F E rfl dX6_poly_56 (by omega) (by omega) (⟨rfl, _, A1, rfl, rfl, frm_upd f1 (by decide), f2⟩)
    · cases c_30
  refine z_aload_n F dX6_poly_0 rfl ?_
  refine z_iload_n F dX6_poly_1 rfl ?_
  refine z_callV F (c_lays_ok _ _ _ _ j n (nI d) f hj (by omega) h.n24 hs) 1 rfl (lw_V q1732 q1734 qs42 q117 q1735) (by decide +kernel) ⟨Nat.le_of_ble_eq_true rfl, Nat.le_of_ble_eq_true rfl⟩ ⟨by omega, by omega⟩ [0, 1] 2 ⟨rfl, rfl, rfl, ⟨Or.inl rfl, Or.inr rfl, trivial⟩⟩ (fun h => nomatch h) (Nat.le_of_ble_eq_true rfl) ⟨⟨Or.inr trivial, Or.inl rfl, trivial⟩, rfl, rfl, rfl, Nat.le_of_ble_eq_true rfl⟩ rfl zC6 (zat_G0 rfl) rfl dX6_poly_2 (fun r_2 w_2 hp => ?_) (fun _ _ h => h.elim)
  obtain ⟨rfl, F1, A1, rfl, f0, f1, f2, f3⟩ := hp
  refine z_weq (w' := [zH, zG _ _ _ _]) rfl ?_
  refine z_seq (S' := zi _ :: _) rfl ?_
  refine z_if_eqB F (tgt := 55) dX6_poly_5 (by decide) (fun c_5 => ?_) (fun c_5 => ?_)
  · cases c_5
  · refine z_aload_n F dX6_poly_8 rfl ?_
    refine z_iload_n F dX6_poly_9 rfl ?_
    refine z_if_lt F (tgt := 25) dX6_poly_10 (by decide) (fun c_10 => ?_) (fun c_10 => ?_)
    · refine z_iconstB F false dX6_poly_25 rfl ?_
      exact J F1 A1 f0 f1 f2
    · refine z_iload_n F dX6_poly_13 rfl ?_
      refine z_aload_n F dX6_poly_14 rfl ?_
      refine z_mi F rfl 4 rfl (Nat.le_of_ble_eq_true rfl) rfl q1484 dX6_poly_15 ?_
      refine z_ieq (f3.1) ?_
      refine z_icmp_gt F (tgt := 25) dX6_poly_18 (by decide) (fun c_18 => ?_) (fun c_18 => ?_)
      · refine z_iconstB F false dX6_poly_25 rfl ?_
        exact J F1 A1 f0 f1 f2
      · exact (inB_ff hx c_10 (Int32.not_lt.mpr (Int32.not_lt.mp c_18))).elim
theorem c_mwalks_ok (F0 : Nat → Int32) (G : Nat → Int64) (A : Nat → Nat → Int32) (B : Nat → Nat → Int64) (j n d : Nat) (f : Nat → Int32) (k : Nat) (hj : j < 8) (h : nok n d f) (hs : Slt A j n (nI d) f) (hk : k ≤ 10) :
    zCtr yX6_walks cX6_walks 9 (some .long) 2 0 0 [zr 1 0, zi (nI j), zi (nI k)] [zH, zG F0 G A B] (fun r w => r = some (zl (ltr (tkS n f k) n)) ∧ ∃ F' A' B', w = [zH, zG F' G A' B'] ∧ F' 0 = nI 0 ∧ frm [0, 4, 5] F0 F' ∧ frm [6] A A' ∧ frm [32, 33] B B') zNx := by
  refine z_start (by decide) [some (zr 1 0), some (zi (nI j)), some (zi (nI k)), none, none, none, none, none, none] rfl (fun _ => Nat.le_of_ble_eq_true rfl) (fun _ => rfl) (fun X F E hno hin => ?_)
  have hn1 := h.n1
  have hn := h.n24
  have hb : inB (nI k) (nI 0) (nI 10) = true := inB_n (by omega) (by omega) hk
  have main : ∀ (F1 : Nat → Int32) (A1 : Nat → Nat → Int32), F1 0 = nI 0 → frm [0, 4, 5] F0 F1 → frm [6] A A1 → F1 4 = nI n → (∀ i, i < n → A1 6 i = f i) → Z X [some (zr 1 0), some (zi (nI j)), some (zi (nI k)), some (zl 0), none, some (zi (nI 0)), none, none, none] [] [zH, zG F1 G A1 B] 0 0 30 := by
    intro F1 A1 f0 f1 f2 hF hf
    -- one entry of the next step
    have ent : ∀ (s i r : Nat) (v : Int64) (W0 : Nat → Int64), r < n → (∀ B1, frm [32, 33] B B1 → B1 32 = W0 → (∀ a, a < r + 1 → B1 33 a = awr f (fun x _ => W0 x) a s n) → Z X [some (zr 1 0), some (zi (nI j)), some (zi (nI k)), some (zl v), none, some (zi (nI s)), some (zi (nI i)), some (zi (nI (r + 1))), none] [] [zH, zG F1 G A1 B1] 0 0 88) →
        ∀ (m x : Nat) (B1 : Nat → Nat → Int64), n - x < m → x ≤ n → frm [32, 33] B B1 → B1 32 = W0 → (∀ a, a < r → B1 33 a = awr f (fun x _ => W0 x) a s n) → B1 33 r = awr f (fun x _ => W0 x) r s x → Z X [some (zr 1 0), some (zi (nI j)), some (zi (nI k)), some (zl v), none, some (zi (nI s)), some (zi (nI i)), some (zi (nI r)), some (zi (nI x))] [] [zH, zG F1 G A1 B1] 0 0 108 := by
      intro s i r v W0 hr kk m
      induction m with
      | zero => intro x B1 hm; omega
      | succ m ih =>
        intro x B1 hm hx hB h32 ha hr1
        refine z_iload F dX6_walks_108 rfl ?_
        refine z_aload_n F dX6_walks_110 rfl ?_
        refine z_mi F rfl 4 rfl (Nat.le_of_ble_eq_true rfl) rfl q1484 dX6_walks_111 ?_
        refine z_ieq (hF) ?_
        refine z_icmp_geN F (by omega) (by omega) (tgt := 151) dX6_walks_114 (by decide) (fun c_114 => ?_) (fun c_114 => ?_)
        · refine z_iincN F 1 dX6_walks_151 rfl rfl ?_
          refine z_leq (L' := [_, _, _, _, _, _, _, _, _]) rfl ?_
          refine z_goto F (tgt := 88) dX6_walks_154 (by decide) ?_
          refine z_loc _ ?_ (kk B1 hB h32 (fun a hl => ?_))
          · exact ⟨rfl, rfl, rfl, rfl, rfl, rfl, rfl, trivial⟩
          · by_cases q : a = r
            · rw [q, hr1, show x = n by omega]
            · exact ha a (by omega)
        · refine z_aload_n F dX6_walks_117 rfl ?_
          refine z_iload F dX6_walks_118 rfl ?_
          refine z_iload F dX6_walks_120 rfl ?_
          refine z_callV F (c_isJoined _ _ _ _ r x (by omega) (by omega)) 2 rfl (lw_V q1748 q1750 qs46 q117 q1751) (by decide +kernel) ⟨Nat.le_of_ble_eq_true rfl, Nat.le_of_ble_eq_true rfl⟩ ⟨by omega, by omega⟩ [0, 1] 2 ⟨rfl, rfl, rfl, ⟨Or.inl rfl, Or.inr rfl, trivial⟩⟩ (fun h => nomatch h) (Nat.le_of_ble_eq_true rfl) ⟨⟨Or.inr trivial, Or.inl rfl, trivial⟩, rfl, rfl, rfl, Nat.le_of_ble_eq_true rfl⟩ rfl zC6 (zat_G0 rfl) rfl dX6_walks_122 (fun r_122 w_122 hp => ?_) (fun _ _ h => h.elim)
          obtain ⟨rfl, rfl⟩ := hp
          rw [hf r hr]
          refine z_weq (w' := [zH, zG _ _ _ _]) rfl ?_
          refine z_seq (S' := zi _ :: _) rfl ?_
          refine z_if_eqB F (tgt := 145) dX6_walks_125 (by decide) (fun c_125 => ?_) (fun c_125 => ?_)
          · refine z_iincN F 1 dX6_walks_145 rfl rfl ?_
            refine z_leq (L' := [_, _, _, _, _, _, _, _, _]) rfl ?_
            refine z_goto F (tgt := 108) dX6_walks_148 (by decide) ?_
            exact ih (x + 1) _ (by omega) (by omega) hB h32 ha (by rw [awr_n c_125]; exact hr1)
          · refine z_aload_n F dX6_walks_128 rfl ?_
            refine z_ma F rfl 33 rfl (Nat.le_of_ble_eq_true rfl) rfl q1513 dX6_walks_129 ?_
            refine z_iload F dX6_walks_132 rfl ?_
            refine z_dup2 F dX6_walks_134 rfl rfl ?_
            refine z_laldGN F rfl rfl (Nat.le_of_ble_eq_true rfl) (by omega) rfl dX6_walks_135 ?_
            refine z_aload_n F dX6_walks_136 rfl ?_
            refine z_ma F rfl 32 rfl (Nat.le_of_ble_eq_true rfl) rfl q1512 dX6_walks_137 ?_
            refine z_iload F dX6_walks_140 rfl ?_
            refine z_laldGN F rfl rfl (Nat.le_of_ble_eq_true rfl) (by omega) rfl dX6_walks_142 ?_
            refine z_ladd F dX6_walks_143 ?_
            refine z_lastGN F rfl rfl (Nat.le_of_ble_eq_true rfl) (by omega) dX6_walks_144 ?_
            refine z_weq (w' := [_, _]) rfl ?_
            refine z_iincN F 1 dX6_walks_145 rfl rfl ?_
            refine z_leq (L' := [_, _, _, _, _, _, _, _, _]) rfl ?_
            refine z_goto F (tgt := 108) dX6_walks_148 (by decide) ?_
            refine ih (x + 1) _ (by omega) (by omega) (frmL hB (by decide)) ((zup2_ne (by decide)).trans h32) (fun a hl => ?_) ?_
            · rw [zup2_eq, if_neg (by omega)]; exact ha a hl
            · rw [zup2_eq, if_pos rfl, hr1, awr_y c_125, h32]
    have step : ∀ (s i : Nat) (v : Int64) (W0 : Nat → Int64), (∀ B1, frm [32, 33] B B1 → B1 32 = W0 → (∀ a, a < n → B1 33 a = awr f (fun x _ => W0 x) a s n) → Z X [some (zr 1 0), some (zi (nI j)), some (zi (nI k)), some (zl v), none, some (zi (nI s)), some (zi (nI i)), none, none] [] [zH, zG F1 G A1 B1] 0 0 157) →
        ∀ (m r : Nat) (B1 : Nat → Nat → Int64), n - r < m → r ≤ n → frm [32, 33] B B1 → B1 32 = W0 → (∀ a, a < r → B1 33 a = awr f (fun x _ => W0 x) a s n) → Z X [some (zr 1 0), some (zi (nI j)), some (zi (nI k)), some (zl v), none, some (zi (nI s)), some (zi (nI i)), some (zi (nI r)), none] [] [zH, zG F1 G A1 B1] 0 0 88 := by
      intro s i v W0 kk m
      induction m with
      | zero => intro r B1 hm; omega
      | succ m ih =>
        intro r B1 hm hr hB h32 ha
        refine z_iload F dX6_walks_88 rfl ?_
        refine z_aload_n F dX6_walks_90 rfl ?_
        refine z_mi F rfl 4 rfl (Nat.le_of_ble_eq_true rfl) rfl q1484 dX6_walks_91 ?_
        refine z_ieq (hF) ?_
        refine z_icmp_geN F (by omega) (by omega) (tgt := 157) dX6_walks_94 (by decide) (fun c_94 => ?_) (fun c_94 => ?_)
        · rw [show r = n by omega] at ha
          refine z_loc _ ?_ (kk B1 hB h32 ha)
          exact ⟨rfl, rfl, rfl, rfl, rfl, rfl, trivial⟩
        · refine z_aload_n F dX6_walks_97 rfl ?_
          refine z_ma F rfl 33 rfl (Nat.le_of_ble_eq_true rfl) rfl q1513 dX6_walks_98 ?_
          refine z_iload F dX6_walks_101 rfl ?_
          refine z_lconst F 0 dX6_walks_103 rfl ?_
          refine z_lastGN F rfl rfl (Nat.le_of_ble_eq_true rfl) (by omega) dX6_walks_104 ?_
          refine z_weq (w' := [_, _]) rfl ?_
          refine z_iconst F (nI 0) dX6_walks_105 rfl ?_
          refine z_istore F dX6_walks_106 (Nat.le_of_ble_eq_true rfl) ?_
          refine z_leq (L' := [_, _, _, _, _, _, _, _, _]) rfl ?_
          exact ent s i r v W0 (by omega) (fun B2 g1 g2 g3 => ih (r + 1) B2 (by omega) (by omega) g1 g2 g3) (n + 1) 0 _ (by omega) (by omega) (frmL hB (by decide)) ((zup2_ne (by decide)).trans h32) (fun a hl => by rw [zup2_eq, if_neg (by omega)]; exact ha a hl) (by rw [zup2_eq, if_pos rfl]; rfl)
    have cpy : ∀ (s i : Nat) (v : Int64) (V0 : Nat → Int64), (∀ B1, frm [32, 33] B B1 → (∀ a, a < n → B1 32 a = V0 a) → Z X [some (zr 1 0), some (zi (nI j)), some (zi (nI k)), some (zl v), none, some (zi (nI s)), some (zi (nI (i + 1))), none, none] [] [zH, zG F1 G A1 B1] 0 0 79) →
        ∀ (m r : Nat) (B1 : Nat → Nat → Int64), n - r < m → r ≤ n → frm [32, 33] B B1 → B1 33 = V0 → (∀ a, a < r → B1 32 a = V0 a) → Z X [some (zr 1 0), some (zi (nI j)), some (zi (nI k)), some (zl v), none, some (zi (nI s)), some (zi (nI i)), some (zi (nI r)), none] [] [zH, zG F1 G A1 B1] 0 0 160 := by
      intro s i v V0 kk m
      induction m with
      | zero => intro r B1 hm; omega
      | succ m ih =>
        intro r B1 hm hr hB h33 ha
        refine z_iload F dX6_walks_160 rfl ?_
        refine z_aload_n F dX6_walks_162 rfl ?_
        refine z_mi F rfl 4 rfl (Nat.le_of_ble_eq_true rfl) rfl q1484 dX6_walks_163 ?_
        refine z_ieq (hF) ?_
        refine z_icmp_geN F (by omega) (by omega) (tgt := 189) dX6_walks_166 (by decide) (fun c_166 => ?_) (fun c_166 => ?_)
        · refine z_iincN F 1 dX6_walks_189 rfl rfl ?_
          refine z_leq (L' := [_, _, _, _, _, _, _, _, _]) rfl ?_
          refine z_goto F (tgt := 79) dX6_walks_192 (by decide) ?_
          refine z_loc _ ?_ (kk B1 hB (fun a hl => ha a (by omega)))
          exact ⟨rfl, rfl, rfl, rfl, rfl, rfl, trivial⟩
        · refine z_aload_n F dX6_walks_169 rfl ?_
          refine z_ma F rfl 32 rfl (Nat.le_of_ble_eq_true rfl) rfl q1512 dX6_walks_170 ?_
          refine z_iload F dX6_walks_173 rfl ?_
          refine z_aload_n F dX6_walks_175 rfl ?_
          refine z_ma F rfl 33 rfl (Nat.le_of_ble_eq_true rfl) rfl q1513 dX6_walks_176 ?_
          refine z_iload F dX6_walks_179 rfl ?_
          refine z_laldGN F rfl rfl (Nat.le_of_ble_eq_true rfl) (by omega) rfl dX6_walks_181 ?_
          refine z_lastGN F rfl rfl (Nat.le_of_ble_eq_true rfl) (by omega) dX6_walks_182 ?_
          refine z_weq (w' := [_, _]) rfl ?_
          refine z_iincN F 1 dX6_walks_183 rfl rfl ?_
          refine z_leq (L' := [_, _, _, _, _, _, _, _, _]) rfl ?_
          refine z_goto F (tgt := 160) dX6_walks_186 (by decide) ?_
          exact ih (r + 1) _ (by omega) (by omega) (frmL hB (by decide)) ((zup2_ne (by decide)).trans h33) (fun a hl => by
            rw [zup2_eq, h33]
            by_cases q : a = r
            · rw [if_pos q, q]
            · rw [if_neg q]; exact ha a (by omega))
    have pow : ∀ (s : Nat) (v : Int64), s < n → (∀ B1, frm [32, 33] B B1 → Z X [some (zr 1 0), some (zi (nI j)), some (zi (nI k)), some (zl (v + tkS n f k s s)), none, some (zi (nI (s + 1))), none, none, none] [] [zH, zG F1 G A1 B1] 0 0 30) →
        ∀ (m i : Nat) (B1 : Nat → Nat → Int64), k - i < m → i ≤ k → frm [32, 33] B B1 → (∀ a, a < n → B1 32 a = tkS n f i a s) → Z X [some (zr 1 0), some (zi (nI j)), some (zi (nI k)), some (zl v), none, some (zi (nI s)), some (zi (nI i)), none, none] [] [zH, zG F1 G A1 B1] 0 0 79 := by
      intro s v hs' kk m
      induction m with
      | zero => intro i B1 hm; omega
      | succ m ih =>
        intro i B1 hm hi hB ha
        have mid : ∀ B2, i < k → frm [32, 33] B B2 → B2 32 = B1 32 → (∀ a, a < n → B2 33 a = awr f (fun x _ => B1 32 x) a s n) → Z X [some (zr 1 0), some (zi (nI j)), some (zi (nI k)), some (zl v), none, some (zi (nI s)), some (zi (nI i)), none, none] [] [zH, zG F1 G A1 B2] 0 0 157 := by
          intro B2 hik g1 g2 g3
          refine z_iconst F (nI 0) dX6_walks_157 rfl ?_
          refine z_istore F dX6_walks_158 (Nat.le_of_ble_eq_true rfl) ?_
          refine z_leq (L' := [_, _, _, _, _, _, _, _, _]) rfl ?_
          exact cpy s i v (B2 33) (fun B3 k1 k2 => ih (i + 1) B3 (by omega) (by omega) k1 (fun a hl => by
            rw [k2 a hl, g3 a hl]
            exact awr_cong n (fun x hx => ha x hx))) (n + 1) 0 B2 (by omega) (by omega) g1 rfl (fun a hl => by omega)
        refine z_iload F dX6_walks_79 rfl ?_
        refine z_iload_n F dX6_walks_81 rfl ?_
        refine z_icmp_geN F (by omega) (by omega) (tgt := 195) dX6_walks_82 (by decide) (fun c_82 => ?_) (fun c_82 => ?_)
        · refine z_lload_n F dX6_walks_195 rfl ?_
          refine z_aload_n F dX6_walks_196 rfl ?_
          refine z_ma F rfl 32 rfl (Nat.le_of_ble_eq_true rfl) rfl q1512 dX6_walks_197 ?_
          refine z_iload F dX6_walks_200 rfl ?_
          refine z_laldGN F rfl rfl (Nat.le_of_ble_eq_true rfl) (by omega) rfl dX6_walks_202 ?_
          refine z_ladd F dX6_walks_203 ?_
          refine z_lstore_n F dX6_walks_204 (Nat.le_of_ble_eq_true rfl) ?_
          refine z_leq (L' := [_, _, _, _, _, _, _, _, _]) rfl ?_
          refine z_iincN F 1 dX6_walks_205 rfl rfl ?_
          refine z_leq (L' := [_, _, _, _, _, _, _, _, _]) rfl ?_
          refine z_goto F (tgt := 30) dX6_walks_208 (by decide) ?_
          rw [ha s hs', show i = k by omega]
          refine z_loc _ ?_ (kk B1 hB)
          exact ⟨rfl, rfl, rfl, rfl, rfl, trivial⟩
        · refine z_iconst F (nI 0) dX6_walks_85 rfl ?_
          refine z_istore F dX6_walks_86 (Nat.le_of_ble_eq_true rfl) ?_
          refine z_leq (L' := [_, _, _, _, _, _, _, _, _]) rfl ?_
          exact step s i v (B1 32) (fun B2 g1 g2 g3 => mid B2 (by omega) g1 g2 g3) (n + 1) 0 B1 (by omega) (by omega) hB rfl (fun a hl => by omega)
    have unit : ∀ (s : Nat) (v : Int64), s < n → (∀ B1, frm [32, 33] B B1 → (∀ a, a < n → B1 32 a = tkS n f 0 a s) → Z X [some (zr 1 0), some (zi (nI j)), some (zi (nI k)), some (zl v), none, some (zi (nI s)), some (zi (nI 0)), none, none] [] [zH, zG F1 G A1 B1] 0 0 79) →
        ∀ (m r : Nat) (B1 : Nat → Nat → Int64), n - r < m → r ≤ n → frm [32, 33] B B1 → (∀ a, a < r → B1 32 a = tkS n f 0 a s) → Z X [some (zr 1 0), some (zi (nI j)), some (zi (nI k)), some (zl v), none, some (zi (nI s)), some (zi (nI r)), none, none] [] [zH, zG F1 G A1 B1] 0 0 42 := by
      intro s v hsn kk m
      induction m with
      | zero => intro r B1 hm; omega
      | succ m ih =>
        intro r B1 hm hr hB ha
        refine z_iload F dX6_walks_42 rfl ?_
        refine z_aload_n F dX6_walks_44 rfl ?_
        refine z_mi F rfl 4 rfl (Nat.le_of_ble_eq_true rfl) rfl q1484 dX6_walks_45 ?_
        refine z_ieq (hF) ?_
        refine z_icmp_geN F (by omega) (by omega) (tgt := 76) dX6_walks_48 (by decide) (fun c_48 => ?_) (fun c_48 => ?_)
        · refine z_iconst F (nI 0) dX6_walks_76 rfl ?_
          refine z_istore F dX6_walks_77 (Nat.le_of_ble_eq_true rfl) ?_
          refine z_leq (L' := [_, _, _, _, _, _, _, _, _]) rfl ?_
          exact kk B1 hB (fun a hl => ha a (by omega))
        · refine z_aload_n F dX6_walks_51 rfl ?_
          refine z_ma F rfl 32 rfl (Nat.le_of_ble_eq_true rfl) rfl q1512 dX6_walks_52 ?_
          refine z_iload F dX6_walks_55 rfl ?_
          refine z_iload F dX6_walks_57 rfl ?_
          refine z_iload F dX6_walks_59 rfl ?_
          refine z_icmp_neN F (by omega) (by omega) (tgt := 68) dX6_walks_61 (by decide) (fun c_61 => ?_) (fun c_61 => ?_)
          · refine z_lconst F 0 dX6_walks_68 rfl ?_
            refine z_lastGN F rfl rfl (Nat.le_of_ble_eq_true rfl) (by omega) dX6_walks_69 ?_
            refine z_weq (w' := [_, _]) rfl ?_
            refine z_iincN F 1 dX6_walks_70 rfl rfl ?_
            refine z_leq (L' := [_, _, _, _, _, _, _, _, _]) rfl ?_
            refine z_goto F (tgt := 42) dX6_walks_73 (by decide) ?_
            exact ih (r + 1) _ (by omega) (by omega) (frmL hB (by decide)) (fun a hl => by
              rw [zup2_eq]
              by_cases q : a = r
              · rw [if_pos q]; exact (if_neg (by omega)).symm
              · rw [if_neg q]; exact ha a (by omega))
          · refine z_lconst F 1 dX6_walks_64 rfl ?_
            refine z_goto F (tgt := 69) dX6_walks_65 (by decide) ?_
            refine z_lastGN F rfl rfl (Nat.le_of_ble_eq_true rfl) (by omega) dX6_walks_69 ?_
            refine z_weq (w' := [_, _]) rfl ?_
            refine z_iincN F 1 dX6_walks_70 rfl rfl ?_
            refine z_leq (L' := [_, _, _, _, _, _, _, _, _]) rfl ?_
            refine z_goto F (tgt := 42) dX6_walks_73 (by decide) ?_
            exact ih (r + 1) _ (by omega) (by omega) (frmL hB (by decide)) (fun a hl => by
              rw [zup2_eq]
              by_cases q : a = r
              · rw [if_pos q]; exact (if_pos (by omega)).symm
              · rw [if_neg q]; exact ha a (by omega))
    have outer : ∀ (m s : Nat) (B1 : Nat → Nat → Int64), n - s < m → s ≤ n → frm [32, 33] B B1 → Z X [some (zr 1 0), some (zi (nI j)), some (zi (nI k)), some (zl (ltr (tkS n f k) s)), none, some (zi (nI s)), none, none, none] [] [zH, zG F1 G A1 B1] 0 0 30 := by
      intro m
      induction m with
      | zero => intro s B1 hm; omega
      | succ m ih =>
        intro s B1 hm hs' hB
        refine z_iload F dX6_walks_30 rfl ?_
        refine z_aload_n F dX6_walks_32 rfl ?_
        refine z_mi F rfl 4 rfl (Nat.le_of_ble_eq_true rfl) rfl q1484 dX6_walks_33 ?_
        refine z_ieq (hF) ?_
        refine z_icmp_geN F (by omega) (by omega) (tgt := 211) dX6_walks_36 (by decide) (fun c_36 => ?_) (fun c_36 => ?_)
        · refine z_lload_n F dX6_walks_211 rfl ?_
          exact z_lret F E rfl dX6_walks_212 (by omega) (by omega) (⟨by rw [show s = n by omega], F1, A1, B1, rfl, f0, f1, f2, hB⟩)
        · refine z_iconst F (nI 0) dX6_walks_39 rfl ?_
          refine z_istore F dX6_walks_40 (Nat.le_of_ble_eq_true rfl) ?_
          refine z_leq (L' := [_, _, _, _, _, _, _, _, _]) rfl ?_
          exact unit s _ (by omega) (fun B2 g1 g2 => pow s _ (by omega) (fun B3 k1 => ih (s + 1) B3 (by omega) (by omega) k1) (k + 1) 0 B2 (by omega) (by omega) g1 g2) (n + 1) 0 B1 (by omega) (by omega) hB (fun a hl => by omega)
    exact z_loc _ (by exact ⟨rfl, rfl, rfl, rfl, rfl, trivial⟩) (outer (n + 1) 0 B (by omega) (by omega) frm.rf)
  refine z_aload_n F dX6_walks_0 rfl ?_
  refine z_iload_n F dX6_walks_1 rfl ?_
  refine z_callV F (c_lays_ok _ _ _ _ j n (nI d) f hj (by omega) h.n24 hs) 1 rfl (lw_V q1732 q1734 qs42 q117 q1735) (by decide +kernel) ⟨Nat.le_of_ble_eq_true rfl, Nat.le_of_ble_eq_true rfl⟩ ⟨by omega, by omega⟩ [0, 1] 2 ⟨rfl, rfl, rfl, ⟨Or.inl rfl, Or.inr rfl, trivial⟩⟩ (fun h => nomatch h) (Nat.le_of_ble_eq_true rfl) ⟨⟨Or.inr trivial, Or.inl rfl, trivial⟩, rfl, rfl, rfl, Nat.le_of_ble_eq_true rfl⟩ rfl zC6 (zat_G0 rfl) rfl dX6_walks_2 (fun r_2 w_2 hp => ?_) (fun _ _ h => h.elim)
  obtain ⟨rfl, F1, A1, rfl, f0, f1, f2, f3⟩ := hp
  refine z_weq (w' := [zH, zG _ _ _ _]) rfl ?_
  refine z_seq (S' := zi _ :: _) rfl ?_
  refine z_if_eqB F (tgt := 23) dX6_walks_5 (by decide) (fun c_5 => ?_) (fun c_5 => ?_)
  · cases c_5
  · refine z_aload_n F dX6_walks_8 rfl ?_
    refine z_iload_n F dX6_walks_9 rfl ?_
    refine z_iconst F (nI 0) dX6_walks_10 rfl ?_
    refine z_bipush F (nI 10) dX6_walks_11 rfl ?_
    refine z_callS F (c_within (nI k) (nI 0) (nI 10)) 3 rfl (lw_S q1717 q1718 q117 q1719) (by decide +kernel) ⟨Nat.le_of_ble_eq_true rfl, Nat.le_of_ble_eq_true rfl⟩ ⟨by omega, by omega⟩ [0] 2 ⟨rfl, rfl, rfl, ⟨Or.inl rfl, trivial⟩⟩ (fun h => nomatch h) (Nat.le_of_ble_eq_true rfl) ⟨⟨Or.inr trivial, Or.inr trivial, trivial⟩, rfl, rfl, rfl, Nat.le_of_ble_eq_true rfl⟩ rfl rfl dX6_walks_13 (fun r_13 w_13 hp => ?_) (fun _ _ h => h.elim)
    obtain ⟨rfl, rfl⟩ := hp
    refine z_weq (w' := [zH, zG _ _ _ _]) rfl ?_
    refine z_seq (S' := zi _ :: _) rfl ?_
    refine z_ieq (congrArg bI hb) ?_
    refine z_iconst F (nI 2) dX6_walks_16 rfl ?_
    refine z_callV F (c_right _ _ _ _ true 2 f0 (by omega) (by omega)) 2 rfl (lw_V q1736 q1738 qs43 q117 q1739) (by decide +kernel) ⟨Nat.le_of_ble_eq_true rfl, Nat.le_of_ble_eq_true rfl⟩ ⟨by omega, by omega⟩ [0, 1] 2 ⟨rfl, rfl, rfl, ⟨Or.inl rfl, Or.inr rfl, trivial⟩⟩ (fun h => nomatch h) (Nat.le_of_ble_eq_true rfl) ⟨⟨Or.inr trivial, Or.inl rfl, trivial⟩, rfl, rfl, rfl, Nat.le_of_ble_eq_true rfl⟩ rfl zC6 (zat_G0 rfl) rfl dX6_walks_17 (fun r_17 w_17 hp => ?_) (fun _ _ h => h.elim)
    obtain ⟨rfl, rfl⟩ := hp
    refine z_weq (w' := [zH, zG _ _ _ _]) rfl ?_
    refine z_seq (S' := zi _ :: _) rfl ?_
    refine z_if_neB F (tgt := 25) dX6_walks_20 (by decide) (fun c_20 => ?_) (fun c_20 => ?_)
    · refine z_lconst F 0 dX6_walks_25 rfl ?_
      refine z_lstore_n F dX6_walks_26 (Nat.le_of_ble_eq_true rfl) ?_
      refine z_leq (L' := [_, _, _, _, _, _, _, _, _]) rfl ?_
      refine z_iconst F (nI 0) dX6_walks_27 rfl ?_
      refine z_istore F dX6_walks_28 (Nat.le_of_ble_eq_true rfl) ?_
      refine z_leq (L' := [_, _, _, _, _, _, _, _, _]) rfl ?_
      exact main F1 A1 f0 f1 f2 f3.1 (fun i hi => f3.2.2 i (by omega))
    · cases c_20
theorem c_mwalks_bad (F0 : Nat → Int32) (G : Nat → Int64) (A : Nat → Nat → Int32) (B : Nat → Nat → Int64) (j n d : Nat) (f : Nat → Int32) (x : Int32) (hj : j < 8) (h : nok n d f) (hs : Slt A j n (nI d) f) (hx : inB x (nI 0) (nI 10) = false) :
    zCtr yX6_walks cX6_walks 9 (some .long) 2 0 0 [zr 1 0, zi (nI j), zi x] [zH, zG F0 G A B] (fun r w => r = some (zl 0) ∧ ∃ F' A', w = [zH, zG F' G A' B] ∧ F' 0 = nI 2 ∧ frm [0, 4, 5] F0 F' ∧ frm [6] A A') zNx := by
  refine z_start (by decide) [some (zr 1 0), some (zi (nI j)), some (zi x), none, none, none, none, none, none] rfl (fun _ => Nat.le_of_ble_eq_true rfl) (fun _ => rfl) (fun X F E hno hin => ?_)
  have hn1 := h.n1
  refine z_aload_n F dX6_walks_0 rfl ?_
  refine z_iload_n F dX6_walks_1 rfl ?_
  refine z_callV F (c_lays_ok _ _ _ _ j n (nI d) f hj (by omega) h.n24 hs) 1 rfl (lw_V q1732 q1734 qs42 q117 q1735) (by decide +kernel) ⟨Nat.le_of_ble_eq_true rfl, Nat.le_of_ble_eq_true rfl⟩ ⟨by omega, by omega⟩ [0, 1] 2 ⟨rfl, rfl, rfl, ⟨Or.inl rfl, Or.inr rfl, trivial⟩⟩ (fun h => nomatch h) (Nat.le_of_ble_eq_true rfl) ⟨⟨Or.inr trivial, Or.inl rfl, trivial⟩, rfl, rfl, rfl, Nat.le_of_ble_eq_true rfl⟩ rfl zC6 (zat_G0 rfl) rfl dX6_walks_2 (fun r_2 w_2 hp => ?_) (fun _ _ h => h.elim)
  obtain ⟨rfl, F1, A1, rfl, f0, f1, f2, f3⟩ := hp
  refine z_weq (w' := [zH, zG _ _ _ _]) rfl ?_
  refine z_seq (S' := zi _ :: _) rfl ?_
  refine z_if_eqB F (tgt := 23) dX6_walks_5 (by decide) (fun c_5 => ?_) (fun c_5 => ?_)
  · cases c_5
  · refine z_aload_n F dX6_walks_8 rfl ?_
    refine z_iload_n F dX6_walks_9 rfl ?_
    refine z_iconst F (nI 0) dX6_walks_10 rfl ?_
    refine z_bipush F (nI 10) dX6_walks_11 rfl ?_
    refine z_callS F (c_within x (nI 0) (nI 10)) 3 rfl (lw_S q1717 q1718 q117 q1719) (by decide +kernel) ⟨Nat.le_of_ble_eq_true rfl, Nat.le_of_ble_eq_true rfl⟩ ⟨by omega, by omega⟩ [0] 2 ⟨rfl, rfl, rfl, ⟨Or.inl rfl, trivial⟩⟩ (fun h => nomatch h) (Nat.le_of_ble_eq_true rfl) ⟨⟨Or.inr trivial, Or.inr trivial, trivial⟩, rfl, rfl, rfl, Nat.le_of_ble_eq_true rfl⟩ rfl rfl dX6_walks_13 (fun r_13 w_13 hp => ?_) (fun _ _ h => h.elim)
    obtain ⟨rfl, rfl⟩ := hp
    refine z_weq (w' := [zH, zG _ _ _ _]) rfl ?_
    refine z_seq (S' := zi _ :: _) rfl ?_
    refine z_ieq (congrArg bI hx) ?_
    refine z_iconst F (nI 2) dX6_walks_16 rfl ?_
    refine z_callV F (c_right _ _ _ _ false 2 f0 (by omega) (by omega)) 2 rfl (lw_V q1736 q1738 qs43 q117 q1739) (by decide +kernel) ⟨Nat.le_of_ble_eq_true rfl, Nat.le_of_ble_eq_true rfl⟩ ⟨by omega, by omega⟩ [0, 1] 2 ⟨rfl, rfl, rfl, ⟨Or.inl rfl, Or.inr rfl, trivial⟩⟩ (fun h => nomatch h) (Nat.le_of_ble_eq_true rfl) ⟨⟨Or.inr trivial, Or.inl rfl, trivial⟩, rfl, rfl, rfl, Nat.le_of_ble_eq_true rfl⟩ rfl zC6 (zat_G0 rfl) rfl dX6_walks_17 (fun r_17 w_17 hp => ?_) (fun _ _ h => h.elim)
    obtain ⟨rfl, rfl⟩ := hp
    refine z_weq (w' := [zH, zG _ _ _ _]) rfl ?_
    refine z_seq (S' := zi _ :: _) rfl ?_
    refine z_if_neB F (tgt := 25) dX6_walks_20 (by decide) (fun c_20 => ?_) (fun c_20 => ?_)
    · cases c_20
    · refine z_lconst F 0 dX6_walks_23 rfl ?_
      exact z_lret F E rfl dX6_walks_24 (by omega) (by omega) (⟨rfl, _, A1, rfl, rfl, frm_upd f1 (by decide), f2⟩)
theorem c_mabove_bad (F0 : Nat → Int32) (G : Nat → Int64) (A : Nat → Nat → Int32) (B : Nat → Nat → Int64) (j n d : Nat) (f : Nat → Int32) (x : Int32) (hj : j < 8) (h : nok n d f) (hs : Slt A j n (nI d) f) (hx : (decide (n ≤ 12) && inB x (-12) (nI 12)) = false) :
    zCtr yX6_above cX6_above 7 (some .int) 2 0 0 [zr 1 0, zi (nI j), zi x] [zH, zG F0 G A B] (fun r w => r = some (zi (nI 0)) ∧ ∃ F' A', w = [zH, zG F' G A' B] ∧ F' 0 = nI 2 ∧ frm [0, 4, 5] F0 F' ∧ frm [6] A A') zNx := by
  refine z_start (by decide) [some (zr 1 0), some (zi (nI j)), some (zi x), none, none, none, none] rfl (fun _ => Nat.le_of_ble_eq_true rfl) (fun _ => rfl) (fun X F E hno hin => ?_)
  have hn1 := h.n1
  have h24 := h.n24
  have J : ∀ (F1 : Nat → Int32) (A1 : Nat → Nat → Int32), F1 0 = nI 0 → frm [0, 4, 5] F0 F1 → frm [6] A A1 → Z X [some (zr 1 0), some (zi (nI j)), some (zi x), none, none, none, none] [zi (bI false), zr 1 0] [zH, zG F1 G A1 B] 0 0 34 := by
    intro F1 A1 f0 f1 f2
    refine z_iconst F (nI 2) dX6_above_34 rfl ?_
    refine z_callV F (c_right _ _ _ _ false 2 f0 (by omega) (by omega)) 2 rfl (lw_V q1736 q1738 qs43 q117 q1739) (by decide +kernel) ⟨Nat.le_of_ble_eq_true rfl, Nat.le_of_ble_eq_true rfl⟩ ⟨by omega, by omega⟩ [0, 1] 2 ⟨rfl, rfl, rfl, ⟨Or.inl rfl, Or.inr rfl, trivial⟩⟩ (fun h => nomatch h) (Nat.le_of_ble_eq_true rfl) ⟨⟨Or.inr trivial, Or.inl rfl, trivial⟩, rfl, rfl, rfl, Nat.le_of_ble_eq_true rfl⟩ rfl zC6 (zat_G0 rfl) rfl dX6_above_35 (fun r_35 w_35 hp => ?_) (fun _ _ h => h.elim)
    obtain ⟨rfl, rfl⟩ := hp
    refine z_weq (w' := [zH, zG _ _ _ _]) rfl ?_
    refine z_seq (S' := zi _ :: _) rfl ?_
    refine z_if_neB F (tgt := 43) dX6_above_38 (by decide) (fun c_38 => ?_) (fun c_38 => ?_)
    · cases c_38
    · refine z_iconst F (nI 0) dX6_above_41 rfl ?_
      exact z_iret F E rfl dX6_above_42 (by omega) (by omega) (⟨rfl, _, A1, rfl, rfl, frm_upd f1 (by decide), f2⟩)
  refine z_aload_n F dX6_above_0 rfl ?_
  refine z_iload_n F dX6_above_1 rfl ?_
  refine z_callV F (c_lays_ok _ _ _ _ j n (nI d) f hj (by omega) h.n24 hs) 1 rfl (lw_V q1732 q1734 qs42 q117 q1735) (by decide +kernel) ⟨Nat.le_of_ble_eq_true rfl, Nat.le_of_ble_eq_true rfl⟩ ⟨by omega, by omega⟩ [0, 1] 2 ⟨rfl, rfl, rfl, ⟨Or.inl rfl, Or.inr rfl, trivial⟩⟩ (fun h => nomatch h) (Nat.le_of_ble_eq_true rfl) ⟨⟨Or.inr trivial, Or.inl rfl, trivial⟩, rfl, rfl, rfl, Nat.le_of_ble_eq_true rfl⟩ rfl zC6 (zat_G0 rfl) rfl dX6_above_2 (fun r_2 w_2 hp => ?_) (fun _ _ h => h.elim)
  obtain ⟨rfl, F1, A1, rfl, f0, f1, f2, f3⟩ := hp
  refine z_weq (w' := [zH, zG _ _ _ _]) rfl ?_
  refine z_seq (S' := zi _ :: _) rfl ?_
  refine z_if_eqB F (tgt := 41) dX6_above_5 (by decide) (fun c_5 => ?_) (fun c_5 => ?_)
  · cases c_5
  · refine z_aload_n F dX6_above_8 rfl ?_
    refine z_aload_n F dX6_above_9 rfl ?_
    refine z_mi F rfl 4 rfl (Nat.le_of_ble_eq_true rfl) rfl q1484 dX6_above_10 ?_
    refine z_ieq (f3.1) ?_
    refine z_bipush F (nI 12) dX6_above_13 rfl ?_
    refine z_icmp_gtN F (by omega) (by omega) (tgt := 33) dX6_above_15 (by decide) (fun c_15 => ?_) (fun c_15 => ?_)
    · refine z_iconstB F false dX6_above_33 rfl ?_
      exact J F1 A1 f0 f1 f2
    · refine z_iload_n F dX6_above_18 rfl ?_
      refine z_bipush F (-12) dX6_above_19 rfl ?_
      refine z_bipush F (nI 12) dX6_above_21 rfl ?_
      refine z_callS F (c_within x (-12) (nI 12)) 3 rfl (lw_S q1717 q1718 q117 q1719) (by decide +kernel) ⟨Nat.le_of_ble_eq_true rfl, Nat.le_of_ble_eq_true rfl⟩ ⟨by omega, by omega⟩ [0] 2 ⟨rfl, rfl, rfl, ⟨Or.inl rfl, trivial⟩⟩ (fun h => nomatch h) (Nat.le_of_ble_eq_true rfl) ⟨⟨Or.inr trivial, Or.inr trivial, trivial⟩, rfl, rfl, rfl, Nat.le_of_ble_eq_true rfl⟩ rfl rfl dX6_above_23 (fun r_23 w_23 hp => ?_) (fun _ _ h => h.elim)
      obtain ⟨rfl, rfl⟩ := hp
      refine z_weq (w' := [zH, zG _ _ _ _]) rfl ?_
      refine z_seq (S' := zi _ :: _) rfl ?_
      refine z_if_eqB F (tgt := 33) dX6_above_26 (by decide) (fun c_26 => ?_) (fun c_26 => ?_)
      · refine z_iconstB F false dX6_above_33 rfl ?_
        exact J F1 A1 f0 f1 f2
      · rw [c_26, decide_eq_true (show n ≤ 12 by omega)] at hx; cases hx
theorem sm_p1 {n t c : Nat} {P : Nat → Int64} {b : Bool} (hs : scS n P t = (c, b)) (h1 : ¬ lg_cmp (P (n - 1 - t)) 0 ≤ 0) (h2 : nI 1 = sgI b) : scS n P (t + 1) = (c, true) := by
  cases b with
  | false => exact absurd h2 (by decide)
  | true => exact sc2 hs (fun e => h1 (by rw [e]; decide)) (decide_eq_true (Classical.byContradiction fun z => h1 (lc_le.mpr z)))
theorem sm_p2 {n t c : Nat} {P : Nat → Int64} {b : Bool} (hs : scS n P t = (c, b)) (h1 : ¬ lg_cmp (P (n - 1 - t)) 0 ≤ 0) (h2 : ¬ nI 1 = sgI b) : scS n P (t + 1) = (c + 1, true) := by
  cases b with
  | true => exact absurd rfl h2
  | false => exact sc3 hs (fun e => h1 (by rw [e]; decide)) (by rw [decide_eq_true (Classical.byContradiction fun z => h1 (lc_le.mpr z))]; decide)
theorem sm_n1 {n t c : Nat} {P : Nat → Int64} {b : Bool} (hs : scS n P t = (c, b)) (h0 : lg_cmp (P (n - 1 - t)) 0 ≤ 0) (h1 : ¬ 0 ≤ lg_cmp (P (n - 1 - t)) 0) (h2 : -1 = sgI b) : scS n P (t + 1) = (c, false) := by
  cases b with
  | true => exact absurd h2 (by decide)
  | false => exact sc2 hs (fun e => h1 (by rw [e]; decide)) (decide_eq_false (lc_le.mp h0))
theorem sm_n2 {n t c : Nat} {P : Nat → Int64} {b : Bool} (hs : scS n P t = (c, b)) (h0 : lg_cmp (P (n - 1 - t)) 0 ≤ 0) (h1 : ¬ 0 ≤ lg_cmp (P (n - 1 - t)) 0) (h2 : ¬ -1 = sgI b) : scS n P (t + 1) = (c + 1, false) := by
  cases b with
  | false => exact absurd rfl h2
  | true => exact sc3 hs (fun e => h1 (by rw [e]; decide)) (by rw [decide_eq_false (lc_le.mp h0)]; decide)
theorem sm_0 {n t c : Nat} {P : Nat → Int64} {b : Bool} (hs : scS n P t = (c, b)) (h0 : lg_cmp (P (n - 1 - t)) 0 ≤ 0) (h1 : 0 ≤ lg_cmp (P (n - 1 - t)) 0) : scS n P (t + 1) = (c, b) := sc1 hs (Int64.le_antisymm (Int64.not_lt.mp (lc_le.mp h0)) (Int64.not_lt.mp (lc_ge.mp h1)))
theorem shI_def {n : Nat} {Y : Int64} {P : Nat → Int64} {t : Nat} : shI n Y P (t + 1) = vp_updL (shI n Y P t) (n - 1 - t) (shI n Y P t (n - 1 - t) + Y * shI n Y P t (n - 1 - t + 1)) := rfl
theorem c_mabove_ok (F0 : Nat → Int32) (G : Nat → Int64) (A : Nat → Nat → Int32) (B : Nat → Nat → Int64) (j n d : Nat) (f : Nat → Int32) (x : Int32) (hj : j < 8) (h : nok n d f) (hs : Slt A j n (nI d) f) (hn : n ≤ 12) (hx : inB x (-12) (nI 12) = true) :
    zCtr yX6_above cX6_above 7 (some .int) 2 0 0 [zr 1 0, zi (nI j), zi x] [zH, zG F0 G A B] (fun r w => r = some (zi (nI (scS n (shO n x.toInt64 (plS n f n).1 n) n).1)) ∧ ∃ F' A' B', w = [zH, zG F' G A' B'] ∧ F' 0 = nI 0 ∧ frm [0, 4, 5] F0 F' ∧ frm [6] A A' ∧ frm [29, 30, 31] B B') zNx := by
  refine z_start (by decide) [some (zr 1 0), some (zi (nI j)), some (zi x), none, none, none, none] rfl (fun _ => Nat.le_of_ble_eq_true rfl) (fun _ => rfl) (fun X F E hno hin => ?_)
  have hn1 := h.n1
  have main : ∀ (F1 : Nat → Int32) (A1 : Nat → Nat → Int32) (B1 : Nat → Nat → Int64), F1 0 = nI 0 → frm [0, 4, 5] F0 F1 → frm [6] A A1 → F1 4 = nI n → frm [29, 30, 31] B B1 → (∀ j, j ≤ n → B1 29 j = (plS n f n).1 j) → Z X [some (zr 1 0), some (zi (nI j)), some (zi x), some (zi (nI 0)), none, none, none] [] [zH, zG F1 G A1 B1] 0 0 49 := by
    intro F1 A1 Bp f0 f1 f2 hF hBp hPp
    have inner : ∀ (P0 : Nat → Int64) (i : Nat), i < n → (∀ B1, frm [29, 30, 31] B B1 → B1 29 = shI n x.toInt64 P0 (n - i) → Z X [some (zr 1 0), some (zi (nI j)), some (zi x), some (zi (nI (i + 1))), none, none, none] [] [zH, zG F1 G A1 B1] 0 0 49) →
        ∀ (m j1 : Nat) (B1 : Nat → Nat → Int64), j1 < m → i ≤ j1 → j1 ≤ n → frm [29, 30, 31] B B1 → B1 29 = shI n x.toInt64 P0 (n - j1) → Z X [some (zr 1 0), some (zi (nI j)), some (zi x), some (zi (nI i)), some (zi (nI j1 - nI 1)), none, none] [] [zH, zG F1 G A1 B1] 0 0 65 := by
      intro P0 i hi kk m
      induction m with
      | zero => intro j1 B1 hm; omega
      | succ m ih =>
        intro j1 B1 hm h1 h2 hB h29
        by_cases hq : j1 = i
        · subst hq
          refine z_iload F dX6_above_65 rfl ?_
          refine z_iload_n F dX6_above_67 rfl ?_
          refine z_icmp_lt F (tgt := 99) dX6_above_68 (by decide) (fun c_68 => ?_) (fun c_68 => ?_)
          · refine z_iincN F 1 dX6_above_99 rfl rfl ?_
            refine z_leq (L' := [_, _, _, _, _, _, _]) rfl ?_
            refine z_goto F (tgt := 49) dX6_above_102 (by decide) ?_
            refine z_loc _ ?_ (kk B1 hB h29)
            exact ⟨rfl, rfl, rfl, rfl, trivial⟩
          · exact absurd (dn_lt (Nat.le_refl j1) (by omega)) c_68
        · obtain ⟨q, rfl⟩ : ∃ q, j1 = q + 1 := ⟨j1 - 1, by omega⟩
          refine z_leq (L' := [some (zr 1 0), some (zi (nI j)), some (zi x), some (zi (nI i)), some (zi (nI q)), none, none]) (by rw [nI_dn]) ?_
          refine z_iload F dX6_above_65 rfl ?_
          refine z_iload_n F dX6_above_67 rfl ?_
          refine z_icmp_ltN F (by omega) (by omega) (tgt := 99) dX6_above_68 (by decide) (fun c_68 => ?_) (fun c_68 => ?_)
          · exact absurd c_68 (by omega)
          · refine z_aload_n F dX6_above_71 rfl ?_
            refine z_ma F rfl 29 rfl (Nat.le_of_ble_eq_true rfl) rfl q1509 dX6_above_72 ?_
            refine z_iload F dX6_above_75 rfl ?_
            refine z_dup2 F dX6_above_77 rfl rfl ?_
            refine z_laldGN F rfl rfl (Nat.le_of_ble_eq_true rfl) (by omega) rfl dX6_above_78 ?_
            refine z_iload_n F dX6_above_79 rfl ?_
            refine z_i2l F dX6_above_80 ?_
            refine z_aload_n F dX6_above_81 rfl ?_
            refine z_ma F rfl 29 rfl (Nat.le_of_ble_eq_true rfl) rfl q1509 dX6_above_82 ?_
            refine z_iload F dX6_above_85 rfl ?_
            refine z_iconst F (nI 1) dX6_above_87 rfl ?_
            refine z_iaddN F dX6_above_88 ?_
            refine z_laldGN F rfl rfl (Nat.le_of_ble_eq_true rfl) (by omega) rfl dX6_above_89 ?_
            refine z_lmul F dX6_above_90 ?_
            refine z_ladd F dX6_above_91 ?_
            refine z_lastGN F rfl rfl (Nat.le_of_ble_eq_true rfl) (by omega) dX6_above_92 ?_
            refine z_weq (w' := [_, _]) rfl ?_
            refine z_iinc F (nI q - nI 1) dX6_above_93 rfl (nI_dn' q) ?_
            refine z_leq (L' := [_, _, _, _, _, _, _]) rfl ?_
            refine z_goto F (tgt := 65) dX6_above_96 (by decide) ?_
            refine ih q _ (by omega) (by omega) (by omega) (frmL hB (by decide)) ?_
            rw [show n - q = n - (q + 1) + 1 by omega, shI_def, show n - 1 - (n - (q + 1)) = q by omega, zup2_row, h29]
            rfl
    have sign : ∀ (B1 : Nat → Nat → Int64), frm [29, 30, 31] B B1 → B1 29 n = 1 → (scS n (B1 29) n).1 = (scS n (shO n x.toInt64 (plS n f n).1 n) n).1 → ∀ (m j1 c : Nat) (b : Bool), j1 < m → j1 ≤ n → scS n (B1 29) (n - j1) = (c, b) →
        Z X [some (zr 1 0), some (zi (nI j)), some (zi x), some (zi (nI c)), some (zi (sgI b)), some (zi (nI j1 - nI 1)), none] [] [zH, zG F1 G A1 B1] 0 0 116 := by
      intro B1 hB htop hQ m
      induction m with
      | zero => intro j1 c b hm; omega
      | succ m ih =>
        intro j1 c b hm h1 hs
        rcases j1 with _ | q
        ·
          refine z_iload F dX6_above_116 rfl ?_
          refine z_if_lt F (tgt := 189) dX6_above_118 (by decide) (fun c_118 => ?_) (fun c_118 => ?_)
          · refine z_iload_n F dX6_above_189 rfl ?_
            exact z_iret F E rfl dX6_above_190 (by omega) (by omega) (⟨by rw [← hQ, show scS n (B1 29) n = (c, b) from hs], F1, A1, B1, rfl, f0, f1, f2, hB⟩)
          · exact absurd (by decide) c_118
        · have e1 : n - 1 - (n - (q + 1)) = q := by omega
          have e2 : n - q = n - (q + 1) + 1 := by omega
          have next : ∀ c' b', scS n (B1 29) (n - q) = (c', b') → Z X [some (zr 1 0), some (zi (nI j)), some (zi x), some (zi (nI c')), some (zi (sgI b')), some (zi (nI q - nI 1)), none] [] [zH, zG F1 G A1 B1] 0 0 116 := fun c' b' h => ih q c' b' (by omega) (by omega) h
          refine z_leq (L' := [some (zr 1 0), some (zi (nI j)), some (zi x), some (zi (nI c)), some (zi (sgI b)), some (zi (nI q)), none]) (by rw [nI_dn]) ?_
          refine z_iload F dX6_above_116 rfl ?_
          refine z_if_ltN F (by omega) (tgt := 189) dX6_above_118 (by decide) (fun c_118 => ?_) (fun c_118 => ?_)
          · exact absurd c_118 (by omega)
          · refine z_aload_n F dX6_above_121 rfl ?_
            refine z_ma F rfl 29 rfl (Nat.le_of_ble_eq_true rfl) rfl q1509 dX6_above_122 ?_
            refine z_iload F dX6_above_125 rfl ?_
            refine z_laldGN F rfl rfl (Nat.le_of_ble_eq_true rfl) (by omega) rfl dX6_above_127 ?_
            refine z_lconst F 0 dX6_above_128 rfl ?_
            refine z_lcmp F dX6_above_129 ?_
            refine z_if_le F (tgt := 137) dX6_above_130 (by decide) (fun c_130 => ?_) (fun c_130 => ?_)
            · refine z_aload_n F dX6_above_137 rfl ?_
              refine z_ma F rfl 29 rfl (Nat.le_of_ble_eq_true rfl) rfl q1509 dX6_above_138 ?_
              refine z_iload F dX6_above_141 rfl ?_
              refine z_laldGN F rfl rfl (Nat.le_of_ble_eq_true rfl) (by omega) rfl dX6_above_143 ?_
              refine z_lconst F 0 dX6_above_144 rfl ?_
              refine z_lcmp F dX6_above_145 ?_
              refine z_if_ge F (tgt := 153) dX6_above_146 (by decide) (fun c_146 => ?_) (fun c_146 => ?_)
              · refine z_iconst F (nI 0) dX6_above_153 rfl ?_
                refine z_istore F dX6_above_154 (Nat.le_of_ble_eq_true rfl) ?_
                refine z_leq (L' := [_, _, _, _, _, _, _]) rfl ?_
                refine z_iload F dX6_above_156 rfl ?_
                refine z_if_neN F (by omega) (tgt := 164) dX6_above_158 (by decide) (fun c_158 => ?_) (fun c_158 => ?_)
                · exact absurd c_158 (by omega)
                · refine z_goto F (tgt := 183) dX6_above_161 (by decide) ?_
                  refine z_iinc F (nI q - nI 1) dX6_above_183 rfl (nI_dn' q) ?_
                  refine z_leq (L' := [_, _, _, _, _, _, _]) rfl ?_
                  refine z_goto F (tgt := 116) dX6_above_186 (by decide) ?_
                  refine z_loc _ ?_ (next c b (by rw [e2]; exact sm_0 hs (by rw [e1]; exact c_130) (by rw [e1]; exact c_146)))
                  exact ⟨rfl, rfl, rfl, rfl, rfl, rfl, trivial⟩
              · refine z_iconst F (-1) dX6_above_149 rfl ?_
                refine z_goto F (tgt := 154) dX6_above_150 (by decide) ?_
                refine z_istore F dX6_above_154 (Nat.le_of_ble_eq_true rfl) ?_
                refine z_leq (L' := [_, _, _, _, _, _, _]) rfl ?_
                refine z_iload F dX6_above_156 rfl ?_
                refine z_if_ne F (tgt := 164) dX6_above_158 (by decide) (fun c_158 => ?_) (fun c_158 => ?_)
                · refine z_iload_n F dX6_above_164 rfl ?_
                  refine z_iload F dX6_above_165 rfl ?_
                  refine z_iload F dX6_above_167 rfl ?_
                  refine z_icmp_eq F (tgt := 176) dX6_above_169 (by decide) (fun c_169 => ?_) (fun c_169 => ?_)
                  · refine z_iconst F (nI 0) dX6_above_176 rfl ?_
                    refine z_iaddN F dX6_above_177 ?_
                    refine z_istore_n F dX6_above_178 (Nat.le_of_ble_eq_true rfl) ?_
                    refine z_leq (L' := [_, _, _, _, _, _, _]) rfl ?_
                    refine z_iload F dX6_above_179 rfl ?_
                    refine z_istore F dX6_above_181 (Nat.le_of_ble_eq_true rfl) ?_
                    refine z_leq (L' := [_, _, _, _, _, _, _]) rfl ?_
                    refine z_iinc F (nI q - nI 1) dX6_above_183 rfl (nI_dn' q) ?_
                    refine z_leq (L' := [_, _, _, _, _, _, _]) rfl ?_
                    refine z_goto F (tgt := 116) dX6_above_186 (by decide) ?_
                    first
                      | (refine z_loc _ ?_ (next c false (by rw [e2]; exact sm_n1 hs (by rw [e1]; exact c_130) (by rw [e1]; exact c_146) c_169)); exact ⟨rfl, rfl, rfl, rfl, rfl, rfl, trivial⟩)
                      | (refine z_loc _ ?_ (next c true (by rw [e2]; exact sm_p1 hs (by rw [e1]; exact c_130) c_169)); exact ⟨rfl, rfl, rfl, rfl, rfl, rfl, trivial⟩)
                  · refine z_iconst F (nI 1) dX6_above_172 rfl ?_
                    refine z_goto F (tgt := 177) dX6_above_173 (by decide) ?_
                    refine z_iaddN F dX6_above_177 ?_
                    refine z_istore_n F dX6_above_178 (Nat.le_of_ble_eq_true rfl) ?_
                    refine z_leq (L' := [_, _, _, _, _, _, _]) rfl ?_
                    refine z_iload F dX6_above_179 rfl ?_
                    refine z_istore F dX6_above_181 (Nat.le_of_ble_eq_true rfl) ?_
                    refine z_leq (L' := [_, _, _, _, _, _, _]) rfl ?_
                    refine z_iinc F (nI q - nI 1) dX6_above_183 rfl (nI_dn' q) ?_
                    refine z_leq (L' := [_, _, _, _, _, _, _]) rfl ?_
                    refine z_goto F (tgt := 116) dX6_above_186 (by decide) ?_
                    first
                      | (refine z_loc _ ?_ (next (c + 1) false (by rw [e2]; exact sm_n2 hs (by rw [e1]; exact c_130) (by rw [e1]; exact c_146) c_169)); exact ⟨rfl, rfl, rfl, rfl, rfl, rfl, trivial⟩)
                      | (refine z_loc _ ?_ (next (c + 1) true (by rw [e2]; exact sm_p2 hs (by rw [e1]; exact c_130) c_169)); exact ⟨rfl, rfl, rfl, rfl, rfl, rfl, trivial⟩)
                · exact absurd c_158 (by decide)
            · refine z_iconst F (nI 1) dX6_above_133 rfl ?_
              refine z_goto F (tgt := 154) dX6_above_134 (by decide) ?_
              refine z_istore F dX6_above_154 (Nat.le_of_ble_eq_true rfl) ?_
              refine z_leq (L' := [_, _, _, _, _, _, _]) rfl ?_
              refine z_iload F dX6_above_156 rfl ?_
              refine z_if_neN F (by omega) (tgt := 164) dX6_above_158 (by decide) (fun c_158 => ?_) (fun c_158 => ?_)
              · refine z_iload_n F dX6_above_164 rfl ?_
                refine z_iload F dX6_above_165 rfl ?_
                refine z_iload F dX6_above_167 rfl ?_
                refine z_icmp_eq F (tgt := 176) dX6_above_169 (by decide) (fun c_169 => ?_) (fun c_169 => ?_)
                · refine z_iconst F (nI 0) dX6_above_176 rfl ?_
                  refine z_iaddN F dX6_above_177 ?_
                  refine z_istore_n F dX6_above_178 (Nat.le_of_ble_eq_true rfl) ?_
                  refine z_leq (L' := [_, _, _, _, _, _, _]) rfl ?_
                  refine z_iload F dX6_above_179 rfl ?_
                  refine z_istore F dX6_above_181 (Nat.le_of_ble_eq_true rfl) ?_
                  refine z_leq (L' := [_, _, _, _, _, _, _]) rfl ?_
                  refine z_iinc F (nI q - nI 1) dX6_above_183 rfl (nI_dn' q) ?_
                  refine z_leq (L' := [_, _, _, _, _, _, _]) rfl ?_
                  refine z_goto F (tgt := 116) dX6_above_186 (by decide) ?_
                  first
                    | (refine z_loc _ ?_ (next c false (by rw [e2]; exact sm_n1 hs (by rw [e1]; exact c_130) (by rw [e1]; exact c_146) c_169)); exact ⟨rfl, rfl, rfl, rfl, rfl, rfl, trivial⟩)
                    | (refine z_loc _ ?_ (next c true (by rw [e2]; exact sm_p1 hs (by rw [e1]; exact c_130) c_169)); exact ⟨rfl, rfl, rfl, rfl, rfl, rfl, trivial⟩)
                · refine z_iconst F (nI 1) dX6_above_172 rfl ?_
                  refine z_goto F (tgt := 177) dX6_above_173 (by decide) ?_
                  refine z_iaddN F dX6_above_177 ?_
                  refine z_istore_n F dX6_above_178 (Nat.le_of_ble_eq_true rfl) ?_
                  refine z_leq (L' := [_, _, _, _, _, _, _]) rfl ?_
                  refine z_iload F dX6_above_179 rfl ?_
                  refine z_istore F dX6_above_181 (Nat.le_of_ble_eq_true rfl) ?_
                  refine z_leq (L' := [_, _, _, _, _, _, _]) rfl ?_
                  refine z_iinc F (nI q - nI 1) dX6_above_183 rfl (nI_dn' q) ?_
                  refine z_leq (L' := [_, _, _, _, _, _, _]) rfl ?_
                  refine z_goto F (tgt := 116) dX6_above_186 (by decide) ?_
                  first
                    | (refine z_loc _ ?_ (next (c + 1) false (by rw [e2]; exact sm_n2 hs (by rw [e1]; exact c_130) (by rw [e1]; exact c_146) c_169)); exact ⟨rfl, rfl, rfl, rfl, rfl, rfl, trivial⟩)
                    | (refine z_loc _ ?_ (next (c + 1) true (by rw [e2]; exact sm_p2 hs (by rw [e1]; exact c_130) c_169)); exact ⟨rfl, rfl, rfl, rfl, rfl, rfl, trivial⟩)
              · exact absurd c_158 (by omega)
    have top : ∀ (B1 : Nat → Nat → Int64), frm [29, 30, 31] B B1 → B1 29 n = 1 → (scS n (B1 29) n).1 = (scS n (shO n x.toInt64 (plS n f n).1 n) n).1 → Z X [some (zr 1 0), some (zi (nI j)), some (zi x), some (zi (nI 0)), some (zi (nI 1)), some (zi (nI n)), none] [] [zH, zG F1 G A1 B1] 0 0 116 := by
      intro B1 hB htop hQ
      refine z_iload F dX6_above_116 rfl ?_
      refine z_if_ltN F (by omega) (tgt := 189) dX6_above_118 (by decide) (fun c_118 => ?_) (fun c_118 => ?_)
      · exact absurd c_118 (by omega)
      · refine z_aload_n F dX6_above_121 rfl ?_
        refine z_ma F rfl 29 rfl (Nat.le_of_ble_eq_true rfl) rfl q1509 dX6_above_122 ?_
        refine z_iload F dX6_above_125 rfl ?_
        refine z_laldGN F rfl rfl (Nat.le_of_ble_eq_true rfl) (by omega) rfl dX6_above_127 ?_
        refine z_lconst F 0 dX6_above_128 rfl ?_
        refine z_lcmp F dX6_above_129 ?_
        refine z_if_le F (tgt := 137) dX6_above_130 (by decide) (fun c_130 => ?_) (fun c_130 => ?_)
        · rw [htop] at c_130; exact absurd c_130 (by decide)
        · refine z_iconst F (nI 1) dX6_above_133 rfl ?_
          refine z_goto F (tgt := 154) dX6_above_134 (by decide) ?_
          refine z_istore F dX6_above_154 (Nat.le_of_ble_eq_true rfl) ?_
          refine z_leq (L' := [_, _, _, _, _, _, _]) rfl ?_
          refine z_iload F dX6_above_156 rfl ?_
          refine z_if_neN F (by omega) (tgt := 164) dX6_above_158 (by decide) (fun c_158 => ?_) (fun c_158 => ?_)
          · refine z_iload_n F dX6_above_164 rfl ?_
            refine z_iload F dX6_above_165 rfl ?_
            refine z_iload F dX6_above_167 rfl ?_
            refine z_icmp_eqN F (by omega) (by omega) (tgt := 176) dX6_above_169 (by decide) (fun c_169 => ?_) (fun c_169 => ?_)
            · refine z_iconst F (nI 0) dX6_above_176 rfl ?_
              refine z_iaddN F dX6_above_177 ?_
              refine z_istore_n F dX6_above_178 (Nat.le_of_ble_eq_true rfl) ?_
              refine z_leq (L' := [_, _, _, _, _, _, _]) rfl ?_
              refine z_iload F dX6_above_179 rfl ?_
              refine z_istore F dX6_above_181 (Nat.le_of_ble_eq_true rfl) ?_
              refine z_leq (L' := [_, _, _, _, _, _, _]) rfl ?_
              refine z_iinc F (nI n - nI 1) dX6_above_183 rfl (nI_dn' n) ?_
              refine z_leq (L' := [_, _, _, _, _, _, _]) rfl ?_
              refine z_goto F (tgt := 116) dX6_above_186 (by decide) ?_
              refine z_loc _ ?_ (sign B1 hB htop hQ (n + 1) n 0 true (by omega) (by omega) (by rw [Nat.sub_self]; rfl))
              exact ⟨rfl, rfl, rfl, rfl, rfl, rfl, trivial⟩
            · exact absurd c_169 (by omega)
          · exact absurd c_158 (by omega)
    have outer : ∀ (m i : Nat) (B1 : Nat → Nat → Int64), n - i < m → i ≤ n → frm [29, 30, 31] B B1 → B1 29 = shO n x.toInt64 (Bp 29) i → Z X [some (zr 1 0), some (zi (nI j)), some (zi x), some (zi (nI i)), none, none, none] [] [zH, zG F1 G A1 B1] 0 0 49 := by
      intro m
      induction m with
      | zero => intro i B1 hm; omega
      | succ m ih =>
        intro i B1 hm hi hB h29
        refine z_iload_n F dX6_above_49 rfl ?_
        refine z_aload_n F dX6_above_50 rfl ?_
        refine z_mi F rfl 4 rfl (Nat.le_of_ble_eq_true rfl) rfl q1484 dX6_above_51 ?_
        refine z_ieq (hF) ?_
        refine z_icmp_geN F (by omega) (by omega) (tgt := 105) dX6_above_54 (by decide) (fun c_54 => ?_) (fun c_54 => ?_)
        · refine z_iconst F (nI 0) dX6_above_105 rfl ?_
          refine z_istore_n F dX6_above_106 (Nat.le_of_ble_eq_true rfl) ?_
          refine z_leq (L' := [_, _, _, _, _, _, _]) rfl ?_
          refine z_iconst F (nI 1) dX6_above_107 rfl ?_
          refine z_istore F dX6_above_108 (Nat.le_of_ble_eq_true rfl) ?_
          refine z_leq (L' := [_, _, _, _, _, _, _]) rfl ?_
          refine z_aload_n F dX6_above_110 rfl ?_
          refine z_mi F rfl 4 rfl (Nat.le_of_ble_eq_true rfl) rfl q1484 dX6_above_111 ?_
          refine z_ieq (hF) ?_
          refine z_istore F dX6_above_114 (Nat.le_of_ble_eq_true rfl) ?_
          refine z_leq (L' := [_, _, _, _, _, _, _]) rfl ?_
          have e0 : i = n := by omega
          subst e0
          exact top B1 hB (by rw [h29, shO_top i (Nat.le_refl _), hPp i (Nat.le_refl _), plS_top i (Nat.le_refl _)]) (by rw [h29, scS_cong (fun j hj => shO_cong hPp i (Nat.le_refl _) j hj)])
        · refine z_aload_n F dX6_above_57 rfl ?_
          refine z_mi F rfl 4 rfl (Nat.le_of_ble_eq_true rfl) rfl q1484 dX6_above_58 ?_
          refine z_ieq (hF) ?_
          refine z_iconst F (nI 1) dX6_above_61 rfl ?_
          refine z_isub F dX6_above_62 ?_
          refine z_istore F dX6_above_63 (Nat.le_of_ble_eq_true rfl) ?_
          refine z_leq (L' := [_, _, _, _, _, _, _]) rfl ?_
          exact inner (shO n x.toInt64 (Bp 29) i) i (by omega) (fun B2 g1 g2 => ih (i + 1) B2 (by omega) (by omega) g1 g2) (n + 1) n B1 (by omega) (by omega) (Nat.le_refl _) hB (by rw [Nat.sub_self]; exact h29)
    exact outer (n + 1) 0 Bp (by omega) (by omega) hBp rfl
  refine z_aload_n F dX6_above_0 rfl ?_
  refine z_iload_n F dX6_above_1 rfl ?_
  refine z_callV F (c_lays_ok _ _ _ _ j n (nI d) f hj (by omega) h.n24 hs) 1 rfl (lw_V q1732 q1734 qs42 q117 q1735) (by decide +kernel) ⟨Nat.le_of_ble_eq_true rfl, Nat.le_of_ble_eq_true rfl⟩ ⟨by omega, by omega⟩ [0, 1] 2 ⟨rfl, rfl, rfl, ⟨Or.inl rfl, Or.inr rfl, trivial⟩⟩ (fun h => nomatch h) (Nat.le_of_ble_eq_true rfl) ⟨⟨Or.inr trivial, Or.inl rfl, trivial⟩, rfl, rfl, rfl, Nat.le_of_ble_eq_true rfl⟩ rfl zC6 (zat_G0 rfl) rfl dX6_above_2 (fun r_2 w_2 hp => ?_) (fun _ _ h => h.elim)
  obtain ⟨rfl, F1, A1, rfl, f0, f1, f2, f3⟩ := hp
  refine z_weq (w' := [zH, zG _ _ _ _]) rfl ?_
  refine z_seq (S' := zi _ :: _) rfl ?_
  refine z_if_eqB F (tgt := 41) dX6_above_5 (by decide) (fun c_5 => ?_) (fun c_5 => ?_)
  · cases c_5
  · refine z_aload_n F dX6_above_8 rfl ?_
    refine z_aload_n F dX6_above_9 rfl ?_
    refine z_mi F rfl 4 rfl (Nat.le_of_ble_eq_true rfl) rfl q1484 dX6_above_10 ?_
    refine z_ieq (f3.1) ?_
    refine z_bipush F (nI 12) dX6_above_13 rfl ?_
    refine z_icmp_gtN F (by omega) (by omega) (tgt := 33) dX6_above_15 (by decide) (fun c_15 => ?_) (fun c_15 => ?_)
    · exact absurd c_15 (by omega)
    · refine z_iload_n F dX6_above_18 rfl ?_
      refine z_bipush F (-12) dX6_above_19 rfl ?_
      refine z_bipush F (nI 12) dX6_above_21 rfl ?_
      refine z_callS F (c_within x (-12) (nI 12)) 3 rfl (lw_S q1717 q1718 q117 q1719) (by decide +kernel) ⟨Nat.le_of_ble_eq_true rfl, Nat.le_of_ble_eq_true rfl⟩ ⟨by omega, by omega⟩ [0] 2 ⟨rfl, rfl, rfl, ⟨Or.inl rfl, trivial⟩⟩ (fun h => nomatch h) (Nat.le_of_ble_eq_true rfl) ⟨⟨Or.inr trivial, Or.inr trivial, trivial⟩, rfl, rfl, rfl, Nat.le_of_ble_eq_true rfl⟩ rfl rfl dX6_above_23 (fun r_23 w_23 hp => ?_) (fun _ _ h => h.elim)
      obtain ⟨rfl, rfl⟩ := hp
      refine z_weq (w' := [zH, zG _ _ _ _]) rfl ?_
      refine z_seq (S' := zi _ :: _) rfl ?_
      refine z_if_eqB F (tgt := 33) dX6_above_26 (by decide) (fun c_26 => ?_) (fun c_26 => ?_)
      · rw [hx] at c_26; cases c_26
      · refine z_iconstB F true dX6_above_29 rfl ?_
        refine z_goto F (tgt := 34) dX6_above_30 (by decide) ?_
        refine z_iconst F (nI 2) dX6_above_34 rfl ?_
        refine z_callV F (c_right _ _ _ _ true 2 f0 (by omega) (by omega)) 2 rfl (lw_V q1736 q1738 qs43 q117 q1739) (by decide +kernel) ⟨Nat.le_of_ble_eq_true rfl, Nat.le_of_ble_eq_true rfl⟩ ⟨by omega, by omega⟩ [0, 1] 2 ⟨rfl, rfl, rfl, ⟨Or.inl rfl, Or.inr rfl, trivial⟩⟩ (fun h => nomatch h) (Nat.le_of_ble_eq_true rfl) ⟨⟨Or.inr trivial, Or.inl rfl, trivial⟩, rfl, rfl, rfl, Nat.le_of_ble_eq_true rfl⟩ rfl zC6 (zat_G0 rfl) rfl dX6_above_35 (fun r_35 w_35 hp => ?_) (fun _ _ h => h.elim)
        obtain ⟨rfl, rfl⟩ := hp
        refine z_weq (w' := [zH, zG _ _ _ _]) rfl ?_
        refine z_seq (S' := zi _ :: _) rfl ?_
        refine z_if_neB F (tgt := 43) dX6_above_38 (by decide) (fun c_38 => ?_) (fun c_38 => ?_)
        · refine z_aload_n F dX6_above_43 rfl ?_
          refine z_callV F (c_mpolys F1 _ _ _ n f hn f3.1 (fun k hk => f3.2.2 k (by omega))) 0 rfl (lw_V q1933 q1935 qs73 q117 q1936) (by decide +kernel) ⟨Nat.le_of_ble_eq_true rfl, Nat.le_of_ble_eq_true rfl⟩ ⟨by omega, by omega⟩ [0, 1] 2 ⟨rfl, rfl, rfl, ⟨Or.inl rfl, Or.inr rfl, trivial⟩⟩ (fun h => nomatch h) (Nat.le_of_ble_eq_true rfl) ⟨⟨Or.inr trivial, Or.inl rfl, trivial⟩, rfl, rfl, rfl, Nat.le_of_ble_eq_true rfl⟩ rfl zC6 (zat_G0 rfl) rfl dX6_above_44 (fun r_44 w_44 hp => ?_) (fun _ _ h => h.elim)
          obtain ⟨rfl, B1, rfl, g1, g2⟩ := hp
          refine z_weq (w' := [zH, zG _ _ _ _]) rfl ?_
          refine z_seq (S' := []) rfl ?_
          refine z_iconst F (nI 0) dX6_above_47 rfl ?_
          refine z_istore_n F dX6_above_48 (Nat.le_of_ble_eq_true rfl) ?_
          refine z_leq (L' := [_, _, _, _, _, _, _]) rfl ?_
          exact main F1 A1 B1 f0 f1 f2 f3.1 g1 g2
        · cases c_38
end C73
