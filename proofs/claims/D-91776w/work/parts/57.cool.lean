/-! the reference: better, change; cool on both sides -/
section C57
theorem c_mbetter_ok (F0 : Nat → Int32) (G : Nat → Int64) (A : Nat → Nat → Int32) (B : Nat → Nat → Int64) (j n d : Nat) (f : Nat → Int32) (hj : j < 8) (h : nok n d f) (hn : n ≤ 12) (hs : Slt A j n (nI d) f) :
    zCtr yX6_better cX6_better 3 (some .int) 5 0 0 [zr 1 0, zi (nI j)] [zH, zG F0 G A B] (fun r w => r = some (zi (nI (brs n f).1)) ∧ ∃ F' A', w = [zH, zG F' G A' B] ∧ F' 0 = nI 0 ∧ frm [0, 4, 5, 20, 24, 25] F0 F' ∧ frm [1, 2, 3, 6, 21, 22, 23] A A' ∧ Slt A' j n (nI d) (brs n f).2 ∧ ∀ i, i < 8 → i ≠ j → SltEq A A' i) zNx := by
  refine z_start (by decide) [some (zr 1 0), some (zi (nI j)), none] rfl (fun _ => Nat.le_of_ble_eq_true rfl) (fun _ => rfl) (fun X F E hno hin => ?_)
  have h1 := h.n1
  have h24 := h.n24
  have loop : ∀ (m : Nat) (f1 : Nat → Int32) (c : Nat) (F1 : Nat → Int32) (A1 : Nat → Nat → Int32), nok n d f1 → cpr n f1 < m → F1 0 = nI 0 → F1 4 = nI n → F1 5 = nI d → frm [0, 4, 5, 20, 24, 25] F0 F1 → frm [6, 21, 22, 23] A A1 → (∀ k, k < 24 → A1 6 k = f1 k) → c + (btr n m f1).1 = (brs n f).1 → (btr n m f1).2 = (brs n f).2 → Z X [some (zr 1 0), some (zi (nI j)), some (zi (nI c))] [] [zH, zG F1 G A1 B] 0 0 23 := by
    intro m
    induction m with
    | zero => intro f1 c F1 A1 hf hm; omega
    | succ m ih =>
      intro f1 c F1 A1 hf hm g0 g4 g5 hF hA hf1 e1 e2
      refine z_aload_n F dX6_better_23 rfl ?_
      refine z_callV F (c_mbetters _ _ _ _ n d f1 hf g4 hf1) 0 rfl (lw_V q1957 q1959 qs75 q117 q1960) (by decide +kernel) ⟨Nat.le_of_ble_eq_true rfl, Nat.le_of_ble_eq_true rfl⟩ ⟨by omega, by omega⟩ [0, 1] 2 ⟨rfl, rfl, rfl, ⟨Or.inl rfl, Or.inr rfl, trivial⟩⟩ (fun h => nomatch h) (Nat.le_of_ble_eq_true rfl) ⟨⟨Or.inr trivial, Or.inl rfl, trivial⟩, rfl, rfl, rfl, Nat.le_of_ble_eq_true rfl⟩ rfl zC6 (zat_G0 rfl) rfl dX6_better_24 (fun r_24 w_24 hp => ?_) (fun _ _ h => h.elim)
      obtain ⟨rfl, F2, A2, rfl, a1, a2, a3⟩ := hp
      refine z_weq (w' := [zH, zG _ _ _ _]) rfl ?_
      refine z_seq (S' := zi _ :: _) rfl ?_
      refine z_if_eqB F (tgt := 36) dX6_better_27 (by decide) (fun c_27 => ?_) (fun c_27 => ?_)
      · have hq : bres n f1 = none := by
          rcases hq : bres n f1 with _ | q
          · rfl
          · rw [hq] at c_27; cases c_27
        rw [btr_n hq] at e1 e2
        rw [bnx_n hq] at a3
        refine z_aload_n F dX6_better_36 rfl ?_
        refine z_iload_n F dX6_better_37 rfl ?_
        refine z_callV F (c_keeps _ _ _ _ j n (nI d) f1 hj ⟨(a1.at 4 rfl).trans g4, (a1.at 5 rfl).trans g5, a3⟩) 1 rfl (lw_V q1724 q1726 qs41 q117 q1727) (by decide +kernel) ⟨Nat.le_of_ble_eq_true rfl, Nat.le_of_ble_eq_true rfl⟩ ⟨by omega, by omega⟩ [0, 1] 2 ⟨rfl, rfl, rfl, ⟨Or.inl rfl, Or.inr rfl, trivial⟩⟩ (fun h => nomatch h) (Nat.le_of_ble_eq_true rfl) ⟨⟨Or.inr trivial, Or.inl rfl, trivial⟩, rfl, rfl, rfl, Nat.le_of_ble_eq_true rfl⟩ rfl zC6 (zat_G0 rfl) rfl dX6_better_38 (fun r_38 w_38 hp => ?_) (fun _ _ h => h.elim)
        obtain ⟨rfl, A3, rfl, b1, b2, b3⟩ := hp
        refine z_weq (w' := [zH, zG _ _ _ _]) rfl ?_
        refine z_seq (S' := []) rfl ?_
        refine z_iload_n F dX6_better_41 rfl ?_
        exact z_iret F E rfl dX6_better_42 (by omega) (by omega) (⟨by rw [← e1]; rfl, F2, A3, rfl, (a1.at 0 rfl).trans g0, hF.tr a1 (by decide) (by decide), (hA.tr a2 (l2 := [6, 21, 22, 23]) (by decide) (by decide)).tr b1 (by decide) (by decide), by rw [← e2]; exact b2, fun i hi hne => ((SltEq.of6 hA (by decide)).tr (SltEq.of6 a2 (by decide))).tr (b3 i hi hne)⟩)
      · obtain ⟨q, hq⟩ : ∃ q, bres n f1 = some q := by
          rcases hq : bres n f1 with _ | q
          · rw [hq] at c_27; cases c_27
          · exact ⟨q, rfl⟩
        obtain ⟨q1, q2, q3, q4⟩ := bres_in hq
        obtain ⟨g1, g2, g3⟩ := cgo_ok hf (by omega) q2 q3
        rw [btr_s hq] at e1 e2
        rw [bnx_s hq] at a3
        refine z_iincN F 1 dX6_better_30 rfl rfl ?_
        refine z_leq (L' := [_, _, _]) rfl ?_
        refine z_goto F (tgt := 23) dX6_better_33 (by decide) ?_
        exact ih _ (c + 1) F2 A2 g1 (by omega) ((a1.at 0 rfl).trans g0) ((a1.at 4 rfl).trans g4) ((a1.at 5 rfl).trans g5) (hF.tr a1 (by decide) (by decide)) (hA.tr a2 (by decide) (by decide)) a3 (by simp only at e1; omega) e2
  refine z_aload_n F dX6_better_0 rfl ?_
  refine z_iload_n F dX6_better_1 rfl ?_
  refine z_callV F (c_lays_ok _ _ _ _ j n (nI d) f hj (by omega) h24 hs) 1 rfl (lw_V q1732 q1734 qs42 q117 q1735) (by decide +kernel) ⟨Nat.le_of_ble_eq_true rfl, Nat.le_of_ble_eq_true rfl⟩ ⟨by omega, by omega⟩ [0, 1] 2 ⟨rfl, rfl, rfl, ⟨Or.inl rfl, Or.inr rfl, trivial⟩⟩ (fun h => nomatch h) (Nat.le_of_ble_eq_true rfl) ⟨⟨Or.inr trivial, Or.inl rfl, trivial⟩, rfl, rfl, rfl, Nat.le_of_ble_eq_true rfl⟩ rfl zC6 (zat_G0 rfl) rfl dX6_better_2 (fun r_2 w_2 hp => ?_) (fun _ _ h => h.elim)
  obtain ⟨rfl, F1, A1, rfl, f0, f1, f2, f3⟩ := hp
  refine z_weq (w' := [zH, zG _ _ _ _]) rfl ?_
  refine z_seq (S' := zi _ :: _) rfl ?_
  refine z_if_neB F (tgt := 10) dX6_better_5 (by decide) (fun c_5 => ?_) (fun c_5 => ?_)
  · refine z_aload_n F dX6_better_10 rfl ?_
    refine z_mi F rfl 4 rfl (Nat.le_of_ble_eq_true rfl) rfl q1484 dX6_better_11 ?_
    refine z_ieq (f3.1) ?_
    refine z_bipush F (nI 12) dX6_better_14 rfl ?_
    refine z_icmp_leN F (by omega) (by omega) (tgt := 21) dX6_better_16 (by decide) (fun c_16 => ?_) (fun c_16 => ?_)
    · refine z_iconst F (nI 0) dX6_better_21 rfl ?_
      refine z_istore_n F dX6_better_22 (Nat.le_of_ble_eq_true rfl) ?_
      refine z_leq (L' := [_, _, _]) rfl ?_
      exact loop _ f 0 F1 A1 h (Nat.lt_succ_self _) f0 f3.1 f3.2.1 (f1.to (by decide)) (f2.to (by decide)) f3.2.2 (by rw [Nat.zero_add]; rfl) rfl
    · exact absurd c_16 (by omega)
  · cases c_5
theorem c_mbetter_big (F0 : Nat → Int32) (G : Nat → Int64) (A : Nat → Nat → Int32) (B : Nat → Nat → Int64) (j n d : Nat) (f : Nat → Int32) (hj : j < 8) (h : nok n d f) (hn : 12 < n) (hs : Slt A j n (nI d) f) :
    zCtr yX6_better cX6_better 3 (some .int) 5 0 0 [zr 1 0, zi (nI j)] [zH, zG F0 G A B] (fun r w => r = some (zi (-1)) ∧ ∃ F' A', w = [zH, zG F' G A' B] ∧ F' 0 = nI 0 ∧ frm [0, 4, 5] F0 F' ∧ frm [6] A A') zNx := by
  refine z_start (by decide) [some (zr 1 0), some (zi (nI j)), none] rfl (fun _ => Nat.le_of_ble_eq_true rfl) (fun _ => rfl) (fun X F E hno hin => ?_)
  have h24 := h.n24
  refine z_aload_n F dX6_better_0 rfl ?_
  refine z_iload_n F dX6_better_1 rfl ?_
  refine z_callV F (c_lays_ok _ _ _ _ j n (nI d) f hj (by omega) h24 hs) 1 rfl (lw_V q1732 q1734 qs42 q117 q1735) (by decide +kernel) ⟨Nat.le_of_ble_eq_true rfl, Nat.le_of_ble_eq_true rfl⟩ ⟨by omega, by omega⟩ [0, 1] 2 ⟨rfl, rfl, rfl, ⟨Or.inl rfl, Or.inr rfl, trivial⟩⟩ (fun h => nomatch h) (Nat.le_of_ble_eq_true rfl) ⟨⟨Or.inr trivial, Or.inl rfl, trivial⟩, rfl, rfl, rfl, Nat.le_of_ble_eq_true rfl⟩ rfl zC6 (zat_G0 rfl) rfl dX6_better_2 (fun r_2 w_2 hp => ?_) (fun _ _ h => h.elim)
  obtain ⟨rfl, F1, A1, rfl, f0, f1, f2, f3⟩ := hp
  refine z_weq (w' := [zH, zG _ _ _ _]) rfl ?_
  refine z_seq (S' := zi _ :: _) rfl ?_
  refine z_if_neB F (tgt := 10) dX6_better_5 (by decide) (fun c_5 => ?_) (fun c_5 => ?_)
  · refine z_aload_n F dX6_better_10 rfl ?_
    refine z_mi F rfl 4 rfl (Nat.le_of_ble_eq_true rfl) rfl q1484 dX6_better_11 ?_
    refine z_ieq (f3.1) ?_
    refine z_bipush F (nI 12) dX6_better_14 rfl ?_
    refine z_icmp_leN F (by omega) (by omega) (tgt := 21) dX6_better_16 (by decide) (fun c_16 => ?_) (fun c_16 => ?_)
    · exact absurd c_16 (by omega)
    · refine z_iconst F (-1) dX6_better_19 rfl ?_
      exact z_iret F E rfl dX6_better_20 (by omega) (by omega) (⟨rfl, F1, A1, rfl, f0, f1, f2⟩)
  · cases c_5
theorem c_mchange_ok (F0 : Nat → Int32) (G : Nat → Int64) (A : Nat → Nat → Int32) (B : Nat → Nat → Int64) (j n d : Nat) (f : Nat → Int32) (x y : Nat) (cr : Bool) (hj : j < 8) (h : nok n d f) (hs : Slt A j n (nI d) f) (hxy : x < y) (hy : y < (prs n f).length) :
    zCtr yX6_change cX6_change 5 (some .boolean) 2 0 0 [zr 1 0, zi (nI j), zi (nI x), zi (nI y), zi (bI cr)] [zH, zG F0 G A B] (fun r w => r = some (zi (bI (cok n f x y cr))) ∧ ∃ F' A', w = [zH, zG F' G A' B] ∧ F' 0 = nI 0 ∧ frm [0, 4, 5, 20] F0 F' ∧ frm [1, 2, 3, 6, 21, 22] A A' ∧ Slt A' j n (nI d) (if cok n f x y cr then cgo n f x y cr else f) ∧ ∀ i, i < 8 → i ≠ j → SltEq A A' i) zNx := by
  refine z_start (by decide) [some (zr 1 0), some (zi (nI j)), some (zi (nI x)), some (zi (nI y)), some (zi (bI cr))] rfl (fun _ => Nat.le_of_ble_eq_true rfl) (fun _ => rfl) (fun X F E hno hin => ?_)
  have h1 := h.n1
  have h24 := h.n24
  have h96 := prs_96 h
  obtain ⟨r1, r2, r3, r4⟩ := c34 h hy cr
  obtain ⟨p1, p2, p3⟩ := prs_at (show x < (prs n f).length by omega)
  refine z_aload_n F dX6_change_0 rfl ?_
  refine z_iload_n F dX6_change_1 rfl ?_
  refine z_callV F (c_lays_ok _ _ _ _ j n (nI d) f hj (by omega) h24 hs) 1 rfl (lw_V q1732 q1734 qs42 q117 q1735) (by decide +kernel) ⟨Nat.le_of_ble_eq_true rfl, Nat.le_of_ble_eq_true rfl⟩ ⟨by omega, by omega⟩ [0, 1] 2 ⟨rfl, rfl, rfl, ⟨Or.inl rfl, Or.inr rfl, trivial⟩⟩ (fun h => nomatch h) (Nat.le_of_ble_eq_true rfl) ⟨⟨Or.inr trivial, Or.inl rfl, trivial⟩, rfl, rfl, rfl, Nat.le_of_ble_eq_true rfl⟩ rfl zC6 (zat_G0 rfl) rfl dX6_change_2 (fun r_2 w_2 hp => ?_) (fun _ _ h => h.elim)
  obtain ⟨rfl, F1, A1, rfl, f0, f1, f2, f3⟩ := hp
  refine z_weq (w' := [zH, zG _ _ _ _]) rfl ?_
  refine z_seq (S' := zi _ :: _) rfl ?_
  refine z_if_neB F (tgt := 10) dX6_change_5 (by decide) (fun c_5 => ?_) (fun c_5 => ?_)
  · refine z_aload_n F dX6_change_10 rfl ?_
    refine z_callV F (c_lists F1 _ _ _ n f h24 h96 f3.1 (fun k hk => f3.2.2 k (by omega))) 0 rfl (lw_V q1868 q1870 qs62 q117 q1871) (by decide +kernel) ⟨Nat.le_of_ble_eq_true rfl, Nat.le_of_ble_eq_true rfl⟩ ⟨by omega, by omega⟩ [0, 1] 2 ⟨rfl, rfl, rfl, ⟨Or.inl rfl, Or.inr rfl, trivial⟩⟩ (fun h => nomatch h) (Nat.le_of_ble_eq_true rfl) ⟨⟨Or.inr trivial, Or.inl rfl, trivial⟩, rfl, rfl, rfl, Nat.le_of_ble_eq_true rfl⟩ rfl zC6 (zat_G0 rfl) rfl dX6_change_11 (fun r_11 w_11 hp => ?_) (fun _ _ h => h.elim)
    obtain ⟨rfl, A2, rfl, a1, a2⟩ := hp
    have hf2 := (fun (k : Nat) (hk : k < 24) => (congrFun (a1.at 6 rfl) k).trans (f3.2.2 k hk))
    refine z_weq (w' := [zH, zG _ _ _ _]) rfl ?_
    refine z_seq (S' := []) rfl ?_
    refine z_aload_n F dX6_change_14 rfl ?_
    refine z_iload_n F dX6_change_15 rfl ?_
    refine z_if_ltN F (by omega) (tgt := 36) dX6_change_16 (by decide) (fun c_16 => ?_) (fun c_16 => ?_)
    · exact absurd c_16 (by omega)
    · refine z_iload_n F dX6_change_19 rfl ?_
      refine z_iload_n F dX6_change_20 rfl ?_
      refine z_icmp_geN F (by omega) (by omega) (tgt := 36) dX6_change_21 (by decide) (fun c_21 => ?_) (fun c_21 => ?_)
      · exact absurd c_21 (by omega)
      · refine z_iload_n F dX6_change_24 rfl ?_
        refine z_aload_n F dX6_change_25 rfl ?_
        refine z_mi F rfl 20 rfl (Nat.le_of_ble_eq_true rfl) rfl q1500 dX6_change_26 ?_
        refine z_ieq ((rfl : upd F1 20 (nI (prs n f).length) 20 = nI (prs n f).length)) ?_
        refine z_icmp_geN F (by omega) (by omega) (tgt := 36) dX6_change_29 (by decide) (fun c_29 => ?_) (fun c_29 => ?_)
        · exact absurd c_29 (by omega)
        · refine z_iconstB F true dX6_change_32 rfl ?_
          refine z_goto F (tgt := 37) dX6_change_33 (by decide) ?_
          refine z_iconst F (nI 1) dX6_change_37 rfl ?_
          refine z_callV F (c_right (upd F1 20 (nI (prs n f).length)) _ _ _ true 1 f0 (by omega) (by omega)) 2 rfl (lw_V q1736 q1738 qs43 q117 q1739) (by decide +kernel) ⟨Nat.le_of_ble_eq_true rfl, Nat.le_of_ble_eq_true rfl⟩ ⟨by omega, by omega⟩ [0, 1] 2 ⟨rfl, rfl, rfl, ⟨Or.inl rfl, Or.inr rfl, trivial⟩⟩ (fun h => nomatch h) (Nat.le_of_ble_eq_true rfl) ⟨⟨Or.inr trivial, Or.inl rfl, trivial⟩, rfl, rfl, rfl, Nat.le_of_ble_eq_true rfl⟩ rfl zC6 (zat_G0 rfl) rfl dX6_change_38 (fun r_38 w_38 hp => ?_) (fun _ _ h => h.elim)
          obtain ⟨rfl, rfl⟩ := hp
          refine z_weq (w' := [zH, zG _ _ _ _]) rfl ?_
          refine z_seq (S' := zi _ :: _) rfl ?_
          refine z_if_neB F (tgt := 46) dX6_change_41 (by decide) (fun c_41 => ?_) (fun c_41 => ?_)
          · refine z_aload_n F dX6_change_46 rfl ?_
            refine z_iload_n F dX6_change_47 rfl ?_
            refine z_iload_n F dX6_change_48 rfl ?_
            refine z_iload F dX6_change_49 rfl ?_
            refine z_callV F (c_mchg (upd F1 20 (nI (prs n f).length)) _ _ _ n d f x y cr h a2 hf2 (by omega) hy) 3 rfl (lw_V q1949 q1951 qs74 q117 q1952) (by decide +kernel) ⟨Nat.le_of_ble_eq_true rfl, Nat.le_of_ble_eq_true rfl⟩ ⟨by omega, by omega⟩ [0, 1] 2 ⟨rfl, rfl, rfl, ⟨Or.inl rfl, Or.inr rfl, trivial⟩⟩ (fun h => nomatch h) (Nat.le_of_ble_eq_true rfl) ⟨⟨Or.inr trivial, Or.inl rfl, trivial⟩, rfl, rfl, rfl, Nat.le_of_ble_eq_true rfl⟩ rfl zC6 (zat_G0 rfl) rfl dX6_change_51 (fun r_51 w_51 hp => ?_) (fun _ _ h => h.elim)
            obtain ⟨rfl, rfl⟩ := hp
            refine z_weq (w' := [zH, zG _ _ _ _]) rfl ?_
            refine z_seq (S' := zi _ :: _) rfl ?_
            refine z_if_neB F (tgt := 59) dX6_change_54 (by decide) (fun c_54 => ?_) (fun c_54 => ?_)
            · rw [if_pos c_54]
              refine z_aload_n F dX6_change_59 rfl ?_
              refine z_iload_n F dX6_change_60 rfl ?_
              refine z_callV F (c_keeps (upd F1 20 (nI (prs n f).length)) _ _ _ j n (nI d) (cgo n f x y cr) hj ⟨f3.1, f3.2.1, fun k hk => by rw [fA_at]; exact chg_cong hf2 (by omega) (by omega) (by omega) (by omega) k hk⟩) 1 rfl (lw_V q1724 q1726 qs41 q117 q1727) (by decide +kernel) ⟨Nat.le_of_ble_eq_true rfl, Nat.le_of_ble_eq_true rfl⟩ ⟨by omega, by omega⟩ [0, 1] 2 ⟨rfl, rfl, rfl, ⟨Or.inl rfl, Or.inr rfl, trivial⟩⟩ (fun h => nomatch h) (Nat.le_of_ble_eq_true rfl) ⟨⟨Or.inr trivial, Or.inl rfl, trivial⟩, rfl, rfl, rfl, Nat.le_of_ble_eq_true rfl⟩ rfl zC6 (zat_G0 rfl) rfl dX6_change_61 (fun r_61 w_61 hp => ?_) (fun _ _ h => h.elim)
              obtain ⟨rfl, A3, rfl, b1, b2, b3⟩ := hp
              refine z_weq (w' := [zH, zG _ _ _ _]) rfl ?_
              refine z_seq (S' := []) rfl ?_
              refine z_iconstB F true dX6_change_64 rfl ?_
              exact z_zret F E rfl rfl dX6_change_65 (by omega) (by omega) (⟨by rw [c_54], _, A3, rfl, f0, frm_upd (f1.to (l2 := [0, 4, 5, 20]) (by decide)) (by decide), ((f2.tr a1 (l2 := [6, 21, 22]) (by decide) (by decide)).tr (frm_fA (l := [6]) frm.rf (by decide)) (l2 := [6, 21, 22]) (by decide) (by decide)).tr b1 (by decide) (by decide), by rw [if_pos c_54]; exact b2, fun i hi hne => (((SltEq.of6 f2 (by decide)).tr (SltEq.of6 a1 (by decide))).tr (SltEq.of6 (frm_fA (l := [6]) frm.rf (by decide)) (by decide))).tr (b3 i hi hne)⟩)
            · refine z_iconstB F false dX6_change_57 rfl ?_
              exact z_zret F E rfl rfl dX6_change_58 (by omega) (by omega) (⟨by rw [c_54], upd F1 20 (nI (prs n f).length), A2, by rw [c_54]; rfl, f0, frm_upd (f1.to (l2 := [0, 4, 5, 20]) (by decide)) (by decide), f2.tr a1 (by decide) (by decide), by rw [c_54]; exact hs.to ((SltEq.of6 f2 (by decide)).tr (SltEq.of6 a1 (by decide))), fun i hi hne => (SltEq.of6 f2 (by decide)).tr (SltEq.of6 a1 (by decide))⟩)
          · cases c_41
  · cases c_5
theorem c_mchange_bad (F0 : Nat → Int32) (G : Nat → Int64) (A : Nat → Nat → Int32) (B : Nat → Nat → Int64) (j n d : Nat) (f : Nat → Int32) (x y : Int32) (cr : Bool) (hj : j < 8) (h : nok n d f) (hs : Slt A j n (nI d) f) (hxy : ∀ i' j', i' < j' → j' < (prs n f).length → x = nI i' → y = nI j' → False) :
    zCtr yX6_change cX6_change 5 (some .boolean) 2 0 0 [zr 1 0, zi (nI j), zi x, zi y, zi (bI cr)] [zH, zG F0 G A B] (fun r w => r = some (zi (nI 0)) ∧ ∃ F' A', w = [zH, zG F' G A' B] ∧ F' 0 = nI 1 ∧ frm [0, 4, 5, 20] F0 F' ∧ frm [6, 21, 22] A A') zNx := by
  refine z_start (by decide) [some (zr 1 0), some (zi (nI j)), some (zi x), some (zi y), some (zi (bI cr))] rfl (fun _ => Nat.le_of_ble_eq_true rfl) (fun _ => rfl) (fun X F E hno hin => ?_)
  have h1 := h.n1
  have h24 := h.n24
  have h96 := prs_96 h
  have J : ∀ (F1 : Nat → Int32) (A1 : Nat → Nat → Int32), F1 0 = nI 0 → frm [0, 4, 5, 20] F0 F1 → frm [6, 21, 22] A A1 → Z X [some (zr 1 0), some (zi (nI j)), some (zi x), some (zi y), some (zi (bI cr))] [zi (bI false), zr 1 0] [zH, zG F1 G A1 B] 0 0 37 := by
    intro F1 A1 f0 f1 f2
    refine z_iconst F (nI 1) dX6_change_37 rfl ?_
    refine z_callV F (c_right _ _ _ _ false 1 f0 (by omega) (by omega)) 2 rfl (lw_V q1736 q1738 qs43 q117 q1739) (by decide +kernel) ⟨Nat.le_of_ble_eq_true rfl, Nat.le_of_ble_eq_true rfl⟩ ⟨by omega, by omega⟩ [0, 1] 2 ⟨rfl, rfl, rfl, ⟨Or.inl rfl, Or.inr rfl, trivial⟩⟩ (fun h => nomatch h) (Nat.le_of_ble_eq_true rfl) ⟨⟨Or.inr trivial, Or.inl rfl, trivial⟩, rfl, rfl, rfl, Nat.le_of_ble_eq_true rfl⟩ rfl zC6 (zat_G0 rfl) rfl dX6_change_38 (fun r_38 w_38 hp => ?_) (fun _ _ h => h.elim)
    obtain ⟨rfl, rfl⟩ := hp
    refine z_weq (w' := [zH, zG _ _ _ _]) rfl ?_
    refine z_seq (S' := zi _ :: _) rfl ?_
    refine z_if_neB F (tgt := 46) dX6_change_41 (by decide) (fun c_41 => ?_) (fun c_41 => ?_)
    · cases c_41
    · refine z_iconst F (nI 0) dX6_change_44 rfl ?_
      exact z_zret F E rfl rfl dX6_change_45 (by omega) (by omega) (⟨rfl, _, A1, rfl, rfl, frm_upd f1 (by decide), f2⟩)
  refine z_aload_n F dX6_change_0 rfl ?_
  refine z_iload_n F dX6_change_1 rfl ?_
  refine z_callV F (c_lays_ok _ _ _ _ j n (nI d) f hj (by omega) h24 hs) 1 rfl (lw_V q1732 q1734 qs42 q117 q1735) (by decide +kernel) ⟨Nat.le_of_ble_eq_true rfl, Nat.le_of_ble_eq_true rfl⟩ ⟨by omega, by omega⟩ [0, 1] 2 ⟨rfl, rfl, rfl, ⟨Or.inl rfl, Or.inr rfl, trivial⟩⟩ (fun h => nomatch h) (Nat.le_of_ble_eq_true rfl) ⟨⟨Or.inr trivial, Or.inl rfl, trivial⟩, rfl, rfl, rfl, Nat.le_of_ble_eq_true rfl⟩ rfl zC6 (zat_G0 rfl) rfl dX6_change_2 (fun r_2 w_2 hp => ?_) (fun _ _ h => h.elim)
  obtain ⟨rfl, F1, A1, rfl, f0, f1, f2, f3⟩ := hp
  refine z_weq (w' := [zH, zG _ _ _ _]) rfl ?_
  refine z_seq (S' := zi _ :: _) rfl ?_
  refine z_if_neB F (tgt := 10) dX6_change_5 (by decide) (fun c_5 => ?_) (fun c_5 => ?_)
  · refine z_aload_n F dX6_change_10 rfl ?_
    refine z_callV F (c_lists F1 _ _ _ n f h24 h96 f3.1 (fun k hk => f3.2.2 k (by omega))) 0 rfl (lw_V q1868 q1870 qs62 q117 q1871) (by decide +kernel) ⟨Nat.le_of_ble_eq_true rfl, Nat.le_of_ble_eq_true rfl⟩ ⟨by omega, by omega⟩ [0, 1] 2 ⟨rfl, rfl, rfl, ⟨Or.inl rfl, Or.inr rfl, trivial⟩⟩ (fun h => nomatch h) (Nat.le_of_ble_eq_true rfl) ⟨⟨Or.inr trivial, Or.inl rfl, trivial⟩, rfl, rfl, rfl, Nat.le_of_ble_eq_true rfl⟩ rfl zC6 (zat_G0 rfl) rfl dX6_change_11 (fun r_11 w_11 hp => ?_) (fun _ _ h => h.elim)
    obtain ⟨rfl, A2, rfl, a1, a2⟩ := hp
    refine z_weq (w' := [zH, zG _ _ _ _]) rfl ?_
    refine z_seq (S' := []) rfl ?_
    refine z_aload_n F dX6_change_14 rfl ?_
    refine z_iload_n F dX6_change_15 rfl ?_
    refine z_if_lt F (tgt := 36) dX6_change_16 (by decide) (fun c_16 => ?_) (fun c_16 => ?_)
    · refine z_iconstB F false dX6_change_36 rfl ?_
      exact J _ A2 f0 (frm_upd (f1.to (l2 := [0, 4, 5, 20]) (by decide)) (by decide)) (f2.tr a1 (by decide) (by decide))
    · refine z_iload_n F dX6_change_19 rfl ?_
      refine z_iload_n F dX6_change_20 rfl ?_
      refine z_icmp_ge F (tgt := 36) dX6_change_21 (by decide) (fun c_21 => ?_) (fun c_21 => ?_)
      · refine z_iconstB F false dX6_change_36 rfl ?_
        exact J _ A2 f0 (frm_upd (f1.to (l2 := [0, 4, 5, 20]) (by decide)) (by decide)) (f2.tr a1 (by decide) (by decide))
      · refine z_iload_n F dX6_change_24 rfl ?_
        refine z_aload_n F dX6_change_25 rfl ?_
        refine z_mi F rfl 20 rfl (Nat.le_of_ble_eq_true rfl) rfl q1500 dX6_change_26 ?_
        refine z_ieq ((rfl : upd F1 20 (nI (prs n f).length) 20 = nI (prs n f).length)) ?_
        refine z_icmp_ge F (tgt := 36) dX6_change_29 (by decide) (fun c_29 => ?_) (fun c_29 => ?_)
        · refine z_iconstB F false dX6_change_36 rfl ?_
          exact J _ A2 f0 (frm_upd (f1.to (l2 := [0, 4, 5, 20]) (by decide)) (by decide)) (f2.tr a1 (by decide) (by decide))
        · obtain ⟨i', hi', rfl⟩ := nI_of c_16
          obtain ⟨j', hj', rfl⟩ := nI_of (show ¬ y < 0 from fun q => c_21 (Int32.le_of_lt (Int32.lt_of_lt_of_le q (Int32.not_lt.mp c_16))))
          exact (hxy i' j' ((nI_ltI hi' hj').mp (Int32.not_le.mp c_21)) ((nI_ltI hj' (by omega)).mp (Int32.not_le.mp c_29)) rfl rfl).elim
  · cases c_5
-- cool
def lcg (v : Int32) : Int32 := v * 1103515245 + nI 12345
def rl (v : Int32) : Nat := (v >>> (nI 16 &&& 31)).toBitVec.toNat % 32768
theorem bt_nI {k i : Nat} (hi : i < 32) : bt (nI k) i = k.testBit i := by
  show (BitVec.ofNat 32 k).getLsbD i = _
  rw [BitVec.getLsbD_ofNat]
  simp [hi]
theorem and_lo (x : Int32) : x &&& nI 32767 = nI (x.toBitVec.toNat % 32768) := b_ext fun i hi => by
  rw [b_and, bt_nI hi, bt_nI hi, show (32767 : Nat) = 2 ^ 15 - 1 from rfl, show (32768 : Nat) = 2 ^ 15 from rfl, Nat.testBit_two_pow_sub_one, Nat.testBit_mod_two_pow, Bool.and_comm]
  rfl
theorem rl_eq (v : Int32) : (v >>> (nI 16 &&& 31)) &&& nI 32767 = nI (rl v) := and_lo _
theorem rl_lt (v : Int32) : rl v < 32768 := Nat.mod_lt _ (by decide)
/-- how often, behind so many steps: the number drawn, the net, how many were made -/
abbrev CS : Type := Int32 × (Nat → Int32) × Nat
def cl1 (L : Nat) (v : Int32) : Nat := rl (lcg v) % L
def cl2 (L : Nat) (v : Int32) : Nat := rl (lcg (lcg v)) % L
def cl3 (v : Int32) : Bool := decide (rl (lcg (lcg (lcg v))) % 2 = 1)
def cacc (n L hh : Nat) (s : CS) : Bool := decide (cl1 L s.1 ≠ cl2 L s.1) && (cok n s.2.1 (min (cl1 L s.1) (cl2 L s.1)) (max (cl1 L s.1) (cl2 L s.1)) (cl3 s.1) && decide (cpr n (cgo n s.2.1 (min (cl1 L s.1) (cl2 L s.1)) (max (cl1 L s.1) (cl2 L s.1)) (cl3 s.1)) ≤ cpr n s.2.1 + hh))
def cst (n L hh : Nat) (s : CS) : CS := if cacc n L hh s then (lcg (lcg (lcg s.1)), cgo n s.2.1 (min (cl1 L s.1) (cl2 L s.1)) (max (cl1 L s.1) (cl2 L s.1)) (cl3 s.1), s.2.2 + 1) else (lcg (lcg (lcg s.1)), s.2.1, s.2.2)
def cls (n L H : Nat) (s : CS) : Nat → CS
  | 0 => s
  | t + 1 => cst n L (H - t) (cls n L H s t)
theorem cst_y {n L hh : Nat} {s : CS} (h : cacc n L hh s = true) : cst n L hh s = (lcg (lcg (lcg s.1)), cgo n s.2.1 (min (cl1 L s.1) (cl2 L s.1)) (max (cl1 L s.1) (cl2 L s.1)) (cl3 s.1), s.2.2 + 1) := if_pos h
theorem cst_n {n L hh : Nat} {s : CS} (h : cacc n L hh s = false) : cst n L hh s = (lcg (lcg (lcg s.1)), s.2.1, s.2.2) := if_neg (by rw [h]; decide)
theorem cacc_to {n L hh : Nat} {s : CS} (h : cacc n L hh s = true) : cl1 L s.1 ≠ cl2 L s.1 ∧ cok n s.2.1 (min (cl1 L s.1) (cl2 L s.1)) (max (cl1 L s.1) (cl2 L s.1)) (cl3 s.1) = true ∧ cpr n (cgo n s.2.1 (min (cl1 L s.1) (cl2 L s.1)) (max (cl1 L s.1) (cl2 L s.1)) (cl3 s.1)) ≤ cpr n s.2.1 + hh := by
  unfold cacc at h
  simp only [Bool.and_eq_true, decide_eq_true_eq] at h
  exact ⟨h.1, h.2.1, h.2.2⟩
theorem cacc_y {n L hh : Nat} {s : CS} (h1 : cl1 L s.1 ≠ cl2 L s.1) (h2 : cok n s.2.1 (min (cl1 L s.1) (cl2 L s.1)) (max (cl1 L s.1) (cl2 L s.1)) (cl3 s.1) = true) (h3 : cpr n (cgo n s.2.1 (min (cl1 L s.1) (cl2 L s.1)) (max (cl1 L s.1) (cl2 L s.1)) (cl3 s.1)) ≤ cpr n s.2.1 + hh) : cacc n L hh s = true := by
  unfold cacc; rw [h2, decide_eq_true h1, decide_eq_true h3]; rfl
theorem cacc_n {n L hh : Nat} {s : CS} (h : cl1 L s.1 = cl2 L s.1 ∨ cok n s.2.1 (min (cl1 L s.1) (cl2 L s.1)) (max (cl1 L s.1) (cl2 L s.1)) (cl3 s.1) = false ∨ cpr n s.2.1 + hh < cpr n (cgo n s.2.1 (min (cl1 L s.1) (cl2 L s.1)) (max (cl1 L s.1) (cl2 L s.1)) (cl3 s.1))) : cacc n L hh s = false := by
  unfold cacc
  rcases h with h | h | h
  · rw [decide_eq_false (fun q => q h)]; rfl
  · rw [h]; simp
  · rw [decide_eq_false (Nat.not_le.mpr h)]; simp
theorem cst_ok {n d L hh : Nat} {s : CS} (h : nok n d s.2.1) (hl : (prs n s.2.1).length = L) (hL : 0 < L) : nok n d (cst n L hh s).2.1 ∧ (prs n (cst n L hh s).2.1).length = L ∧ (cst n L hh s).2.2 ≤ s.2.2 + 1 := by
  rcases hc : cacc n L hh s with _ | _
  · rw [cst_n hc]; exact ⟨h, hl, Nat.le_succ _⟩
  · rw [cst_y hc]
    obtain ⟨c1, c2, c3⟩ := cacc_to hc
    have m1 : cl1 L s.1 < (prs n s.2.1).length := Nat.lt_of_lt_of_eq (Nat.mod_lt _ hL) hl.symm
    have m2 : cl2 L s.1 < (prs n s.2.1).length := Nat.lt_of_lt_of_eq (Nat.mod_lt _ hL) hl.symm
    obtain ⟨g1, g2, g3⟩ := cgo_ok h (Nat.lt_of_le_of_lt (Nat.min_le_left _ _) m1) (Nat.max_lt.mpr ⟨m1, m2⟩) c2
    exact ⟨g1, g2.trans hl, Nat.le_refl _⟩
theorem cls_ok {n d L H : Nat} {s : CS} (h : nok n d s.2.1) (hl : (prs n s.2.1).length = L) (hL : 0 < L) (hm : s.2.2 = 0) : ∀ t, nok n d (cls n L H s t).2.1 ∧ (prs n (cls n L H s t).2.1).length = L ∧ (cls n L H s t).2.2 ≤ t
  | 0 => ⟨h, hl, Nat.le_of_eq hm⟩
  | t + 1 => by
    obtain ⟨i1, i2, i3⟩ := cls_ok h hl hL hm t
    obtain ⟨j1, j2, j3⟩ := cst_ok (hh := H - t) i1 i2 hL
    have e : cls n L H s (t + 1) = cst n L (H - t) (cls n L H s t) := rfl
    rw [e]
    exact ⟨j1, j2, Nat.le_trans j3 (Nat.succ_le_succ i3)⟩
end C57
