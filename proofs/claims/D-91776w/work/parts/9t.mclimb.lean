/-! floors: the reference climbs -/
section C9t
theorem c_mclimbs (F0 : Nat → Int32) (G : Nat → Int64) (A : Nat → Nat → Int32) (B : Nat → Nat → Int64) (n w d : Nat) (f : Nat → Int32) (h : nok n d f) (hw : 1 ≤ w) (hw2 : w ≤ 24) (hId : ∀ k, k < n → A 63 k = nI k) (h4 : F0 4 = nI n) (h20 : F0 20 = nI (prs n f).length) (hL : LnE A (prs n f)) (h61 : F0 61 = nI w) : zCtr yX6_climbs cX6_climbs 9 (some .int) 2 0 0 [zr 1 0] [zH, zG F0 G A B] (fun r w' => r = some (zi (nI (LN n f w (clF n f w (LN n f w (fun i => i) + 1) (fun i => i))))) ∧ ∃ A', w' = [zH, zG F0 G A' B] ∧ frm [63] A A' ∧ ∀ k, k < n → A' 63 k = nI (clF n f w (LN n f w (fun i => i) + 1) (fun i => i) k)) zNx := by
  refine z_start (by decide) [some (zr 1 0), none, none, none, none, none, none, none, none] rfl (fun _ => Nat.le_of_ble_eq_true rfl) (fun _ => rfl) (fun X F E hno hin => ?_)
  have hn := h.n24
  have hn1 := h.n1
  have h96 := prs_96 h
  have hbd : ∀ p, isP n p → LN n f w p ≤ 4800 := fun p hp => by
    have := lnI_le (f := f) hw hn (fun k hk => hp.1 k hk) _ (Nat.le_refl _)
    unfold LN lnL
    omega
  have LnA : ∀ A1, frm [63] A A1 → LnE A1 (prs n f) := fun A1 hA i hi => by rw [hA.at 21 rfl, hA.at 22 rfl]; exact hL i hi
  have inner : ∀ (p : Nat → Nat) (is_ : Nat), isP n p → ∀ (i : Nat), i < n → (∀ A1, frm [63] A A1 → (∀ k, k < n → A1 63 k = nI (p k)) → Z X [some (zr 1 0), some (zi (nI is_)), some (zi (bI true)), some (zi (nI (fla n f w p (i + 1)).1)), some (zi (ftI (fla n f w p (i + 1)).2)), some (zi (sdI (fla n f w p (i + 1)).2)), some (zi (nI (i + 1))), none, none] [] [zH, zG F0 G A1 B] 0 0 22) →
      ∀ (m j : Nat) (A1 : Nat → Nat → Int32), n - j < m → i < j → j ≤ n → frm [63] A A1 → (∀ k, k < n → A1 63 k = nI (p k)) → Z X [some (zr 1 0), some (zi (nI is_)), some (zi (bI true)), some (zi (nI (flr n f w p i (fla n f w p i) j).1)), some (zi (ftI (flr n f w p i (fla n f w p i) j).2)), some (zi (sdI (flr n f w p i (fla n f w p i) j).2)), some (zi (nI i)), some (zi (nI j)), none] [] [zH, zG F0 G A1 B] 0 0 37 := by
    intro p is_ hp0 i hi kk m
    have hs0 := fla_I (n := n) (f := f) (w := w) (p := p) i (by omega)
    induction m with
    | zero => intro j A1 hm; omega
    | succ m ih =>
      intro j A1 hm hij hj hA hPl
      have hs1 := (flr_I hs0 (i := i) j hj).1
      have hb0 := hbd p hp0
      have hsw := fun z => isP_sw hp0 (i := i) (j := j) (by omega) z
      have i1 := fun A2 z => ih (j + 1) A2 (by omega) (by omega) z
      rw [flr] at i1
      refine z_iload F dX6_climbs_37 rfl ?_
      refine z_aload_n F dX6_climbs_39 rfl ?_
      refine z_mi F rfl 4 rfl (Nat.le_of_ble_eq_true rfl) rfl q1484 dX6_climbs_40 ?_
      refine z_ieq (h4) ?_
      refine z_icmp_geN F (by omega) (by omega) (tgt := 94) dX6_climbs_43 (by decide) (fun c_43 => ?_) (fun c_43 => ?_)
      · refine z_iincN F 1 dX6_climbs_94 rfl rfl ?_
        refine z_leq (L' := [_, _, _, _, _, _, _, _, _]) rfl ?_
        refine z_goto F (tgt := 22) dX6_climbs_97 (by decide) ?_
        rw [show j = n by omega]
        refine z_loc _ ?_ (kk A1 hA hPl)
        exact ⟨rfl, rfl, rfl, rfl, rfl, rfl, rfl, trivial⟩
      · have hsw := hsw (by omega)
        have hbs := hbd _ hsw
        have hP1 := sw_put (A := A1) (K := 63) (i := i) (j := j) hPl (by omega) (by omega)
        have hA1 : frm [63] A (zup2 (zup2 A1 63 i (A1 63 j)) 63 j (A1 63 i)) := frm_zup (frm_zup hA (by decide)) (by decide)
        refine z_aload_n F dX6_climbs_46 rfl ?_
        refine z_iload F dX6_climbs_47 rfl ?_
        refine z_iload F dX6_climbs_49 rfl ?_
        refine z_callV F (c_mmoves F0 _ A1 _ i j (by omega) (by omega)) 2 rfl (lw_V q2059 q2061 qs91 q117 q2062) (by decide +kernel) ⟨Nat.le_of_ble_eq_true rfl, Nat.le_of_ble_eq_true rfl⟩ ⟨by omega, by omega⟩ [0, 1] 2 ⟨rfl, rfl, rfl, ⟨Or.inl rfl, Or.inr rfl, trivial⟩⟩ (fun h => nomatch h) (Nat.le_of_ble_eq_true rfl) ⟨⟨Or.inr trivial, Or.inl rfl, trivial⟩, rfl, rfl, rfl, Nat.le_of_ble_eq_true rfl⟩ rfl zC6 (zat_G0 rfl) rfl dX6_climbs_51 (fun r_51 w_51 hp => ?_) (fun _ _ h => h.elim)
        obtain ⟨rfl, rfl⟩ := hp
        refine z_weq (w' := [zH, zG _ _ _ _]) rfl ?_
        refine z_seq (S' := []) rfl ?_
        refine z_aload_n F dX6_climbs_54 rfl ?_
        refine z_callV F (c_mlen F0 _ _ _ n w f (sw2 p i j) hn hw hw2 (fun k hk => hsw.1 k hk) hP1 h96 h20 (LnA _ hA1) h61) 0 rfl (lw_V q2051 q2053 qs89 q117 q2054) (by decide +kernel) ⟨Nat.le_of_ble_eq_true rfl, Nat.le_of_ble_eq_true rfl⟩ ⟨by omega, by omega⟩ [0, 1] 2 ⟨rfl, rfl, rfl, ⟨Or.inl rfl, Or.inr rfl, trivial⟩⟩ (fun h => nomatch h) (Nat.le_of_ble_eq_true rfl) ⟨⟨Or.inr trivial, Or.inl rfl, trivial⟩, rfl, rfl, rfl, Nat.le_of_ble_eq_true rfl⟩ rfl zC6 (zat_G0 rfl) rfl dX6_climbs_55 (fun r_55 w_55 hp => ?_) (fun _ _ h => h.elim)
        obtain ⟨rfl, rfl⟩ := hp
        refine z_weq (w' := [zH, zG _ _ _ _]) rfl ?_
        refine z_seq (S' := zi _ :: _) rfl ?_
        refine z_istore F dX6_climbs_58 (Nat.le_of_ble_eq_true rfl) ?_
        refine z_leq (L' := [_, _, _, _, _, _, _, _, _]) rfl ?_
        refine z_aload_n F dX6_climbs_60 rfl ?_
        refine z_iload F dX6_climbs_61 rfl ?_
        refine z_iload F dX6_climbs_63 rfl ?_
        refine z_callV F (c_mmoves F0 _ (zup2 (zup2 A1 63 i (A1 63 j)) 63 j (A1 63 i)) _ i j (by omega) (by omega)) 2 rfl (lw_V q2059 q2061 qs91 q117 q2062) (by decide +kernel) ⟨Nat.le_of_ble_eq_true rfl, Nat.le_of_ble_eq_true rfl⟩ ⟨by omega, by omega⟩ [0, 1] 2 ⟨rfl, rfl, rfl, ⟨Or.inl rfl, Or.inr rfl, trivial⟩⟩ (fun h => nomatch h) (Nat.le_of_ble_eq_true rfl) ⟨⟨Or.inr trivial, Or.inl rfl, trivial⟩, rfl, rfl, rfl, Nat.le_of_ble_eq_true rfl⟩ rfl zC6 (zat_G0 rfl) rfl dX6_climbs_65 (fun r_65 w_65 hp => ?_) (fun _ _ h => h.elim)
        obtain ⟨rfl, rfl⟩ := hp
        refine z_weq (w' := [zH, zG _ _ _ _]) rfl ?_
        refine z_seq (S' := []) rfl ?_
        refine z_iload F dX6_climbs_68 rfl ?_
        refine z_iload_n F dX6_climbs_70 rfl ?_
        refine z_icmp_ltN F (by omega) (by omega) (tgt := 77) dX6_climbs_71 (by decide) (fun c_71 => ?_) (fun c_71 => ?_)
        · refine z_iload F dX6_climbs_77 rfl ?_
          refine z_istore_n F dX6_climbs_79 (Nat.le_of_ble_eq_true rfl) ?_
          refine z_leq (L' := [_, _, _, _, _, _, _, _, _]) rfl ?_
          refine z_iload F dX6_climbs_80 rfl ?_
          refine z_istore F dX6_climbs_82 (Nat.le_of_ble_eq_true rfl) ?_
          refine z_leq (L' := [_, _, _, _, _, _, _, _, _]) rfl ?_
          refine z_iload F dX6_climbs_84 rfl ?_
          refine z_istore F dX6_climbs_86 (Nat.le_of_ble_eq_true rfl) ?_
          refine z_leq (L' := [_, _, _, _, _, _, _, _, _]) rfl ?_
          refine z_iincN F 1 dX6_climbs_88 rfl rfl ?_
          refine z_leq (L' := [_, _, _, _, _, _, _, _, _]) rfl ?_
          refine z_goto F (tgt := 37) dX6_climbs_91 (by decide) ?_
          have i2 := i1 _ (by omega) (frm_zup (frm_zup hA1 (by decide)) (by decide)) (fun k hk => (sw_put hP1 (show i < n by omega) (show j < n by omega) k hk).trans (congrArg nI (sw_sw k)))
          rw [if_pos ⟨hij, by omega⟩] at i2
          refine z_loc _ ?_ i2
          exact ⟨rfl, rfl, rfl, rfl, rfl, rfl, rfl, rfl, trivial⟩
        · refine z_goto F (tgt := 88) dX6_climbs_74 (by decide) ?_
          refine z_iincN F 1 dX6_climbs_88 rfl rfl ?_
          refine z_leq (L' := [_, _, _, _, _, _, _, _, _]) rfl ?_
          refine z_goto F (tgt := 37) dX6_climbs_91 (by decide) ?_
          have i2 := i1 _ (by omega) (frm_zup (frm_zup hA1 (by decide)) (by decide)) (fun k hk => (sw_put hP1 (show i < n by omega) (show j < n by omega) k hk).trans (congrArg nI (sw_sw k)))
          rw [if_neg (by omega)] at i2
          refine z_loc _ ?_ i2
          exact ⟨rfl, rfl, rfl, rfl, rfl, rfl, rfl, rfl, trivial⟩
  have outer : ∀ (p : Nat → Nat) (is_ : Nat), isP n p → (∀ A1, frm [63] A A1 → (∀ k, k < n → A1 63 k = nI (p k)) → Z X [some (zr 1 0), some (zi (nI is_)), some (zi (bI true)), some (zi (nI (fla n f w p n).1)), some (zi (ftI (fla n f w p n).2)), some (zi (sdI (fla n f w p n).2)), none, none, none] [] [zH, zG F0 G A1 B] 0 0 100) →
      ∀ (m i : Nat) (A1 : Nat → Nat → Int32), n - i < m → i ≤ n → frm [63] A A1 → (∀ k, k < n → A1 63 k = nI (p k)) → Z X [some (zr 1 0), some (zi (nI is_)), some (zi (bI true)), some (zi (nI (fla n f w p i).1)), some (zi (ftI (fla n f w p i).2)), some (zi (sdI (fla n f w p i).2)), some (zi (nI i)), none, none] [] [zH, zG F0 G A1 B] 0 0 22 := by
    intro p is_ hp0 kk m
    induction m with
    | zero => intro i A1 hm; omega
    | succ m ih =>
      intro i A1 hm hi hA hPl
      refine z_iload F dX6_climbs_22 rfl ?_
      refine z_aload_n F dX6_climbs_24 rfl ?_
      refine z_mi F rfl 4 rfl (Nat.le_of_ble_eq_true rfl) rfl q1484 dX6_climbs_25 ?_
      refine z_ieq (h4) ?_
      refine z_icmp_geN F (by omega) (by omega) (tgt := 100) dX6_climbs_28 (by decide) (fun c_28 => ?_) (fun c_28 => ?_)
      · rw [show i = n by omega]
        refine z_loc _ ?_ (kk A1 hA hPl)
        exact ⟨rfl, rfl, rfl, rfl, rfl, rfl, trivial⟩
      · refine z_iload F dX6_climbs_31 rfl ?_
        refine z_iconst F (nI 1) dX6_climbs_33 rfl ?_
        refine z_iaddN F dX6_climbs_34 ?_
        refine z_istore F dX6_climbs_35 (Nat.le_of_ble_eq_true rfl) ?_
        refine z_leq (L' := [_, _, _, _, _, _, _, _, _]) rfl ?_
        have r1 := inner p is_ hp0 i (by omega) (fun A2 q1 q2 => ih (i + 1) A2 (by omega) (by omega) q1 q2) (n + 1) (i + 1) A1 (by omega) (by omega) (by omega) hA hPl
        rw [flr_lo _ (Nat.le_refl _)] at r1
        exact r1
  have fin : ∀ (q : Nat → Nat) (A1 : Nat → Nat → Int32), frm [63] A A1 → (∀ i, i < n → A1 63 i = nI (q i)) → q = clF n f w (LN n f w (fun i => i) + 1) (fun i => i) → Z X [some (zr 1 0), some (zi (nI (LN n f w q))), some (zi (bI false)), none, none, none, none, none, none] [] [zH, zG F0 G A1 B] 0 0 7 := by
    intro q A1 hA hPl hq
    refine z_iload_n F dX6_climbs_7 rfl ?_
    refine z_if_eqB F (tgt := 129) dX6_climbs_8 (by decide) (fun c_8 => ?_) (fun c_8 => ?_)
    · refine z_iload_n F dX6_climbs_129 rfl ?_
      exact z_iret F E rfl dX6_climbs_130 (by omega) (by omega) (⟨by rw [hq], A1, rfl, hA, fun k hk => by rw [← hq]; exact hPl k hk⟩)
    · cases c_8
  have top : ∀ (m : Nat) (p : Nat → Nat) (A1 : Nat → Nat → Int32), LN n f w p < m → isP n p → clF n f w m p = clF n f w (LN n f w (fun i => i) + 1) (fun i => i) → frm [63] A A1 → (∀ k, k < n → A1 63 k = nI (p k)) → Z X [some (zr 1 0), some (zi (nI (LN n f w p))), some (zi (bI true)), none, none, none, none, none, none] [] [zH, zG F0 G A1 B] 0 0 7 := by
    intro m
    induction m with
    | zero => intro p A1 hm; omega
    | succ m ih =>
      intro p A1 hm hp0 hcl hA hPl
      have hs := fla_I (n := n) (f := f) (w := w) (p := p) n (Nat.le_refl _)
      have at100 : ∀ A1, frm [63] A A1 → (∀ k, k < n → A1 63 k = nI (p k)) → Z X [some (zr 1 0), some (zi (nI (LN n f w p))), some (zi (bI true)), some (zi (nI (fla n f w p n).1)), some (zi (ftI (fla n f w p n).2)), some (zi (sdI (fla n f w p n).2)), none, none, none] [] [zH, zG F0 G A1 B] 0 0 100 := by
        intro A1 hA hPl
        rw [clF] at hcl
        rcases ho : (fla n f w p n).2 with _ | ⟨i, j⟩
        ·
          rw [ho] at hcl
          have hcl0 : p = clF n f w (LN n f w (fun i => i) + 1) (fun i => i) := hcl
          rw [hs.2.1 ho]
          refine z_iload F dX6_climbs_100 rfl ?_
          refine z_iconst F (-1) dX6_climbs_102 rfl ?_
          refine z_icmp_eq F (tgt := 110) dX6_climbs_103 (by decide) (fun c_103 => ?_) (fun c_103 => ?_)
          · refine z_iconstB F false dX6_climbs_110 rfl ?_
            refine z_istore_n F dX6_climbs_111 (Nat.le_of_ble_eq_true rfl) ?_
            refine z_leq (L' := [_, _, _, _, _, _, _, _, _]) rfl ?_
            refine z_iload_n F dX6_climbs_112 rfl ?_
            refine z_if_eqB F (tgt := 124) dX6_climbs_113 (by decide) (fun c_113 => ?_) (fun c_113 => ?_)
            · refine z_iload_n F dX6_climbs_124 rfl ?_
              refine z_istore_n F dX6_climbs_125 (Nat.le_of_ble_eq_true rfl) ?_
              refine z_leq (L' := [_, _, _, _, _, _, _, _, _]) rfl ?_
              refine z_goto F (tgt := 7) dX6_climbs_126 (by decide) ?_
              refine z_loc _ ?_ (fin p A1 hA hPl hcl0)
              exact ⟨rfl, rfl, rfl, trivial⟩
            · cases c_113
          · exact absurd rfl c_103
        rw [ho] at hcl
        have hcl0 : clF n f w m (sw2 p i j) = clF n f w (LN n f w (fun i => i) + 1) (fun i => i) := hcl
        obtain ⟨q1, q2, q3, q4⟩ := hs.2.2 i j ho
        rw [q3]
        have hP1 := sw_put (A := A1) (K := 63) (i := i) (j := j) hPl (by omega) (by omega)
        refine z_iload F dX6_climbs_100 rfl ?_
        refine z_iconst F (-1) dX6_climbs_102 rfl ?_
        refine z_icmp_eq F (tgt := 110) dX6_climbs_103 (by decide) (fun c_103 => ?_) (fun c_103 => ?_)
        · exact absurd c_103 (nI_ne (by omega))
        · refine z_iconstB F true dX6_climbs_106 rfl ?_
          refine z_goto F (tgt := 111) dX6_climbs_107 (by decide) ?_
          refine z_istore_n F dX6_climbs_111 (Nat.le_of_ble_eq_true rfl) ?_
          refine z_leq (L' := [_, _, _, _, _, _, _, _, _]) rfl ?_
          refine z_iload_n F dX6_climbs_112 rfl ?_
          refine z_if_eqB F (tgt := 124) dX6_climbs_113 (by decide) (fun c_113 => ?_) (fun c_113 => ?_)
          · cases c_113
          · refine z_aload_n F dX6_climbs_116 rfl ?_
            refine z_iload F dX6_climbs_117 rfl ?_
            refine z_iload F dX6_climbs_119 rfl ?_
            refine z_callV F (c_mmoves F0 _ A1 _ i j (by omega) (by omega)) 2 rfl (lw_V q2059 q2061 qs91 q117 q2062) (by decide +kernel) ⟨Nat.le_of_ble_eq_true rfl, Nat.le_of_ble_eq_true rfl⟩ ⟨by omega, by omega⟩ [0, 1] 2 ⟨rfl, rfl, rfl, ⟨Or.inl rfl, Or.inr rfl, trivial⟩⟩ (fun h => nomatch h) (Nat.le_of_ble_eq_true rfl) ⟨⟨Or.inr trivial, Or.inl rfl, trivial⟩, rfl, rfl, rfl, Nat.le_of_ble_eq_true rfl⟩ rfl zC6 (zat_G0 rfl) rfl dX6_climbs_121 (fun r_121 w_121 hp => ?_) (fun _ _ h => h.elim)
            obtain ⟨rfl, rfl⟩ := hp
            refine z_weq (w' := [zH, zG _ _ _ _]) rfl ?_
            refine z_seq (S' := []) rfl ?_
            refine z_iload_n F dX6_climbs_124 rfl ?_
            refine z_istore_n F dX6_climbs_125 (Nat.le_of_ble_eq_true rfl) ?_
            refine z_leq (L' := [_, _, _, _, _, _, _, _, _]) rfl ?_
            refine z_goto F (tgt := 7) dX6_climbs_126 (by decide) ?_
            refine z_loc _ ?_ (ih (sw2 p i j) _ (by omega) (isP_sw hp0 (by omega) (by omega)) hcl0 (frm_zup (frm_zup hA (by decide)) (by decide)) hP1)
            exact ⟨rfl, rfl, rfl, trivial⟩
      refine z_iload_n F dX6_climbs_7 rfl ?_
      refine z_if_eqB F (tgt := 129) dX6_climbs_8 (by decide) (fun c_8 => ?_) (fun c_8 => ?_)
      · cases c_8
      · refine z_iload_n F dX6_climbs_11 rfl ?_
        refine z_istore_n F dX6_climbs_12 (Nat.le_of_ble_eq_true rfl) ?_
        refine z_leq (L' := [_, _, _, _, _, _, _, _, _]) rfl ?_
        refine z_iconst F (-1) dX6_climbs_13 rfl ?_
        refine z_istore F dX6_climbs_14 (Nat.le_of_ble_eq_true rfl) ?_
        refine z_leq (L' := [_, _, _, _, _, _, _, _, _]) rfl ?_
        refine z_iconst F (-1) dX6_climbs_16 rfl ?_
        refine z_istore F dX6_climbs_17 (Nat.le_of_ble_eq_true rfl) ?_
        refine z_leq (L' := [_, _, _, _, _, _, _, _, _]) rfl ?_
        refine z_iconst F (nI 0) dX6_climbs_19 rfl ?_
        refine z_istore F dX6_climbs_20 (Nat.le_of_ble_eq_true rfl) ?_
        refine z_leq (L' := [_, _, _, _, _, _, _, _, _]) rfl ?_
        exact outer p _ hp0 at100 (n + 1) 0 A1 (by omega) (by omega) hA hPl
  refine z_aload_n F dX6_climbs_0 rfl ?_
  refine z_callV F (c_mlen F0 _ A _ n w f (fun i => i) hn hw hw2 (fun k hk => hk) hId h96 h20 hL h61) 0 rfl (lw_V q2051 q2053 qs89 q117 q2054) (by decide +kernel) ⟨Nat.le_of_ble_eq_true rfl, Nat.le_of_ble_eq_true rfl⟩ ⟨by omega, by omega⟩ [0, 1] 2 ⟨rfl, rfl, rfl, ⟨Or.inl rfl, Or.inr rfl, trivial⟩⟩ (fun h => nomatch h) (Nat.le_of_ble_eq_true rfl) ⟨⟨Or.inr trivial, Or.inl rfl, trivial⟩, rfl, rfl, rfl, Nat.le_of_ble_eq_true rfl⟩ rfl zC6 (zat_G0 rfl) rfl dX6_climbs_1 (fun r_1 w_1 hp => ?_) (fun _ _ h => h.elim)
  obtain ⟨rfl, rfl⟩ := hp
  refine z_weq (w' := [zH, zG _ _ _ _]) rfl ?_
  refine z_seq (S' := zi _ :: _) rfl ?_
  refine z_istore_n F dX6_climbs_4 (Nat.le_of_ble_eq_true rfl) ?_
  refine z_leq (L' := [_, _, _, _, _, _, _, _, _]) rfl ?_
  refine z_iconstB F true dX6_climbs_5 rfl ?_
  refine z_istore_n F dX6_climbs_6 (Nat.le_of_ble_eq_true rfl) ?_
  refine z_leq (L' := [_, _, _, _, _, _, _, _, _]) rfl ?_
  exact top (LN n f w (fun i => i) + 1) (fun i => i) A (by omega) (isP_id n) rfl frm.rf hId
end C9t
