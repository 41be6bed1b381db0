/-! floors: the reference goes through all rows -/
section C9r
abbrev lySt (n : Nat) (p : Nat → Nat) : (Nat → Nat) → Prop := fun r => lxL n r p ∨ eqN n r p
theorem eqN_s {n : Nat} {p q : Nat → Nat} (h : eqN n p q) : eqN n q p := fun k hk => (h k hk).symm
theorem lySt_nx {n i j : Nat} {p r : Nat → Nat} (hx : nxH n i j p) (hp : isP n p) (hr : isP n r) : lySt n (nxR n i j p) r ↔ lySt n p r ∨ eqN n (nxR n i j p) r := by
  constructor
  · rintro (z | z)
    · rcases lxL_tri n p r with e | e | e
      · exact Or.inl (Or.inr (eqN_s e))
      · rcases nxR_next hx hp hr e with w | w
        · exact Or.inr w
        · exact absurd (lxL_tr z w) lxL_irr
      · exact Or.inl (Or.inl e)
    · exact Or.inr (eqN_s z)
  · rintro ((z | z) | z)
    · exact Or.inl (lxL_tr z (nxR_lt hx))
    · exact Or.inl (lxL_cong (eqN_s z) (fun _ _ => rfl) (nxR_lt hx))
    · exact Or.inr (eqN_s z)
theorem c_mgoes (F0 : Nat → Int32) (G : Nat → Int64) (A : Nat → Nat → Int32) (B : Nat → Nat → Int64) (n w d : Nat) (f : Nat → Int32) (h : nok n d f) (hw : 1 ≤ w) (hw2 : w ≤ 24) (hId : ∀ k, k < n → A 63 k = nI k) (h4 : F0 4 = nI n) (h20 : F0 20 = nI (prs n f).length) (hL : LnE A (prs n f)) (h61 : F0 61 = nI w) : zCtr yX6_goesThrough cX6_goesThrough 4 (some .int) 2 0 0 [zr 1 0] [zH, zG F0 G A B] (fun r w' => ∃ l q A', r = some (zi (nI l)) ∧ w' = [zH, zG F0 G A' B] ∧ frm [63, 64] A A' ∧ isMl n (LN n f w) (fun _ => True) (some (l, q)) ∧ ∀ k, k < n → A' 63 k = nI (q k)) zNx := by
  refine z_start (by decide) [some (zr 1 0), none, none, none] rfl (fun _ => Nat.le_of_ble_eq_true rfl) (fun _ => rfl) (fun X F E hno hin => ?_)
  have hn := h.n24
  have hn1 := h.n1
  have h96 := prs_96 h
  have hbd : ∀ p, isP n p → LN n f w p ≤ 4800 := fun p hp => by
    have := lnI_le (f := f) hw hn (fun k hk => hp.1 k hk) _ (Nat.le_refl _)
    unfold LN lnL
    omega
  have LnA : ∀ A1, frm [63, 64] A A1 → LnE A1 (prs n f) := fun A1 hA i hi => by rw [hA.at 21 rfl, hA.at 22 rfl]; exact hL i hi
  have fin : ∀ (l : Nat) (q : Nat → Nat), isMl n (LN n f w) (fun _ => True) (some (l, q)) → ∀ (m k : Nat) (A1 : Nat → Nat → Int32), n - k < m → k ≤ n → frm [63, 64] A A1 → (∀ i, i < n → A1 64 i = nI (q i)) → (∀ i, i < k → A1 63 i = nI (q i)) → Z X [some (zr 1 0), some (zi (nI l)), some (zi (nI k)), none] [] [zH, zG F0 G A1 B] 0 0 88 := by
    intro l q hM m
    induction m with
    | zero => intro k A1 hm; omega
    | succ m ih =>
      intro k A1 hm hk hA h64 h63
      have t1 := fun z => h64 k z
      refine z_iload_n F dX6_goesThrough_88 rfl ?_
      refine z_aload_n F dX6_goesThrough_89 rfl ?_
      refine z_mi F rfl 4 rfl (Nat.le_of_ble_eq_true rfl) rfl q1484 dX6_goesThrough_90 ?_
      refine z_ieq (h4) ?_
      refine z_icmp_geN F (by omega) (by omega) (tgt := 114) dX6_goesThrough_93 (by decide) (fun c_93 => ?_) (fun c_93 => ?_)
      · refine z_iload_n F dX6_goesThrough_114 rfl ?_
        exact z_iret F E rfl dX6_goesThrough_115 (by omega) (by omega) (⟨l, q, A1, rfl, rfl, hA, hM, fun i hi => h63 i (by omega)⟩)
      · have t1 := t1 (by omega)
        refine z_aload_n F dX6_goesThrough_96 rfl ?_
        refine z_ma F rfl 63 rfl (Nat.le_of_ble_eq_true rfl) rfl q1543 dX6_goesThrough_97 ?_
        refine z_iload_n F dX6_goesThrough_100 rfl ?_
        refine z_aload_n F dX6_goesThrough_101 rfl ?_
        refine z_ma F rfl 64 rfl (Nat.le_of_ble_eq_true rfl) rfl q1544 dX6_goesThrough_102 ?_
        refine z_iload_n F dX6_goesThrough_105 rfl ?_
        refine z_ialdGN F rfl rfl (Nat.le_of_ble_eq_true rfl) (by omega) rfl dX6_goesThrough_106 ?_
        refine z_iastGN F rfl rfl (Nat.le_of_ble_eq_true rfl) (by omega) dX6_goesThrough_107 ?_
        refine z_weq (w' := [_, _]) rfl ?_
        refine z_iincN F 1 dX6_goesThrough_108 rfl rfl ?_
        refine z_leq (L' := [_, _, _, _]) rfl ?_
        refine z_goto F (tgt := 88) dX6_goesThrough_111 (by decide) ?_
        refine ih (k + 1) _ (by omega) (by omega) (frm_zup hA (by decide)) (fun i hi => h64 i hi) (fun i hi => ?_)
        rw [zup2_row]
        show (if i = k then _ else A1 63 i) = _
        by_cases e : i = k
        · rw [if_pos e, e]; exact t1
        · rw [if_neg e]; exact h63 i (by omega)
  have copy : ∀ (l : Nat) (p : Nat → Nat), (∀ A1, frm [63, 64] A A1 → (∀ i, i < n → A1 63 i = nI (p i)) → (∀ i, i < n → A1 64 i = nI (p i)) → Z X [some (zr 1 0), some (zi (nI l)), none, none] [] [zH, zG F0 G A1 B] 0 0 33) → ∀ (m k : Nat) (A1 : Nat → Nat → Int32) , n - k < m → k ≤ n → frm [63, 64] A A1 → (∀ i, i < n → A1 63 i = nI (p i)) → (∀ i, i < k → A1 64 i = nI (p i)) → Z X [some (zr 1 0), some (zi (nI l)), none, some (zi (nI k))] [] [zH, zG F0 G A1 B] 0 0 57 := by
    intro l p kk m
    induction m with
    | zero => intro k A1 hm; omega
    | succ m ih =>
      intro k A1 hm hk hA h63 h64
      have t1 := fun z => h63 k z
      refine z_iload_n F dX6_goesThrough_57 rfl ?_
      refine z_aload_n F dX6_goesThrough_58 rfl ?_
      refine z_mi F rfl 4 rfl (Nat.le_of_ble_eq_true rfl) rfl q1484 dX6_goesThrough_59 ?_
      refine z_ieq (h4) ?_
      refine z_icmp_geN F (by omega) (by omega) (tgt := 83) dX6_goesThrough_62 (by decide) (fun c_62 => ?_) (fun c_62 => ?_)
      · refine z_goto F (tgt := 33) dX6_goesThrough_83 (by decide) ?_
        refine z_loc _ ?_ (kk A1 hA h63 (fun i hi => h64 i (by omega)))
        exact ⟨rfl, rfl, trivial⟩
      · have t1 := t1 (by omega)
        refine z_aload_n F dX6_goesThrough_65 rfl ?_
        refine z_ma F rfl 64 rfl (Nat.le_of_ble_eq_true rfl) rfl q1544 dX6_goesThrough_66 ?_
        refine z_iload_n F dX6_goesThrough_69 rfl ?_
        refine z_aload_n F dX6_goesThrough_70 rfl ?_
        refine z_ma F rfl 63 rfl (Nat.le_of_ble_eq_true rfl) rfl q1543 dX6_goesThrough_71 ?_
        refine z_iload_n F dX6_goesThrough_74 rfl ?_
        refine z_ialdGN F rfl rfl (Nat.le_of_ble_eq_true rfl) (by omega) rfl dX6_goesThrough_75 ?_
        refine z_iastGN F rfl rfl (Nat.le_of_ble_eq_true rfl) (by omega) dX6_goesThrough_76 ?_
        refine z_weq (w' := [_, _]) rfl ?_
        refine z_iincN F 1 dX6_goesThrough_77 rfl rfl ?_
        refine z_leq (L' := [_, _, _, _]) rfl ?_
        refine z_goto F (tgt := 57) dX6_goesThrough_80 (by decide) ?_
        refine ih (k + 1) _ (by omega) (by omega) (frm_zup hA (by decide)) (fun i hi => h63 i hi) (fun i hi => ?_)
        rw [zup2_row]
        show (if i = k then _ else A1 64 i) = _
        by_cases e : i = k
        · rw [if_pos e, e]; exact t1
        · rw [if_neg e]; exact h64 i (by omega)
  have loop : ∀ (m : Nat) (p : Nat → Nat) (l : Nat) (q : Nat → Nat) (A1 : Nat → Nat → Int32), n ^ n - lxV n p n < m → isP n p → isMl n (LN n f w) (lySt n p) (some (l, q)) → frm [63, 64] A A1 → (∀ i, i < n → A1 63 i = nI (p i)) → (∀ i, i < n → A1 64 i = nI (q i)) → Z X [some (zr 1 0), some (zi (nI l)), none, none] [] [zH, zG F0 G A1 B] 0 0 33 := by
    intro m
    induction m with
    | zero => intro p l q A1 hm; omega
    | succ m ih =>
      intro p l q A1 hm hp0 hM hA h63 h64
      obtain ⟨b1_, b2_, b3_⟩ := hM.2 l q rfl
      have hl := hbd q b2_
      refine z_aload_n F dX6_goesThrough_33 rfl ?_
      refine z_callV F (c_mshifts F0 _ A1 _ n p hn1 hn h4 hp0 h63) 0 rfl (lw_V q2067 q2069 qs93 q117 q2070) (by decide +kernel) ⟨Nat.le_of_ble_eq_true rfl, Nat.le_of_ble_eq_true rfl⟩ ⟨by omega, by omega⟩ [0, 1] 2 ⟨rfl, rfl, rfl, ⟨Or.inl rfl, Or.inr rfl, trivial⟩⟩ (fun h => nomatch h) (Nat.le_of_ble_eq_true rfl) ⟨⟨Or.inr trivial, Or.inl rfl, trivial⟩, rfl, rfl, rfl, Nat.le_of_ble_eq_true rfl⟩ rfl zC6 (zat_G0 rfl) rfl dX6_goesThrough_34 (fun r_34 w_34 hp => ?_) (fun _ _ h => h.elim)
      rcases hp with ⟨rfl, rfl, hd⟩ | ⟨rfl, A2, i, j, rfl, hA2, hx, hT2⟩
      ·
        refine z_weq (w' := [zH, zG F0 G _ _]) rfl ?_
        refine z_seq (S' := [zi _]) rfl ?_
        refine z_if_eqB F (tgt := 86) dX6_goesThrough_37 (by decide) (fun c_37 => ?_) (fun c_37 => ?_)
        · refine z_iconst F (nI 0) dX6_goesThrough_86 rfl ?_
          refine z_istore_n F dX6_goesThrough_87 (Nat.le_of_ble_eq_true rfl) ?_
          refine z_leq (L' := [_, _, _, _]) rfl ?_
          refine z_loc _ ?_ (fin l q (isMl_cg hM (fun r hr => ⟨fun _ => trivial, fun _ => ?_⟩)) (n + 1) 0 A1 (by omega) (by omega) hA h64 (fun i hi => absurd hi (by omega)))
          · exact ⟨rfl, rfl, rfl, trivial⟩
          rcases lxL_tri n p r with e | e | e
          · exact Or.inr (eqN_s e)
          · exact absurd e (nxR_last hd hp0 hr)
          · exact Or.inl e
        · cases c_37
      refine z_weq (w' := [zH, zG F0 G _ _]) rfl ?_
      refine z_seq (S' := [zi _]) rfl ?_
      have hpn := nxR_P hx hp0
      have hvl := lxV_L hp0 hpn (nxR_lt hx)
      have hvb := lxV_lt hpn.1 n (Nat.le_refl _)
      have hA3 : frm [63, 64] A A2 := hA.tr hA2 (by decide) (by decide)
      have hln := hbd _ hpn
      refine z_if_eqB F (tgt := 86) dX6_goesThrough_37 (by decide) (fun c_37 => ?_) (fun c_37 => ?_)
      · cases c_37
      · refine z_aload_n F dX6_goesThrough_40 rfl ?_
        refine z_callV F (c_mlen F0 _ A2 _ n w f (nxR n i j p) hn hw hw2 (fun k hk => hpn.1 k hk) hT2 h96 h20 (LnA A2 hA3) h61) 0 rfl (lw_V q2051 q2053 qs89 q117 q2054) (by decide +kernel) ⟨Nat.le_of_ble_eq_true rfl, Nat.le_of_ble_eq_true rfl⟩ ⟨by omega, by omega⟩ [0, 1] 2 ⟨rfl, rfl, rfl, ⟨Or.inl rfl, Or.inr rfl, trivial⟩⟩ (fun h => nomatch h) (Nat.le_of_ble_eq_true rfl) ⟨⟨Or.inr trivial, Or.inl rfl, trivial⟩, rfl, rfl, rfl, Nat.le_of_ble_eq_true rfl⟩ rfl zC6 (zat_G0 rfl) rfl dX6_goesThrough_41 (fun r_41 w_41 hp => ?_) (fun _ _ h => h.elim)
        obtain ⟨rfl, rfl⟩ := hp
        refine z_weq (w' := [zH, zG _ _ _ _]) rfl ?_
        refine z_seq (S' := zi _ :: _) rfl ?_
        refine z_istore_n F dX6_goesThrough_44 (Nat.le_of_ble_eq_true rfl) ?_
        refine z_leq (L' := [_, _, _, _]) rfl ?_
        refine z_iload_n F dX6_goesThrough_45 rfl ?_
        refine z_iload_n F dX6_goesThrough_46 rfl ?_
        refine z_icmp_ltN F (by omega) (by omega) (tgt := 53) dX6_goesThrough_47 (by decide) (fun c_47 => ?_) (fun c_47 => ?_)
        · refine z_iload_n F dX6_goesThrough_53 rfl ?_
          refine z_istore_n F dX6_goesThrough_54 (Nat.le_of_ble_eq_true rfl) ?_
          refine z_leq (L' := [_, _, _, _]) rfl ?_
          refine z_loc [some (zr 1 0), some (zi (nI (LN n f w (nxR n i j p)))), none, none] ⟨rfl, rfl, trivial⟩ ?_
          refine z_iconst F (nI 0) dX6_goesThrough_55 rfl ?_
          refine z_istore_n F dX6_goesThrough_56 (Nat.le_of_ble_eq_true rfl) ?_
          refine z_leq (L' := [_, _, _, _]) rfl ?_
          exact copy (LN n f w (nxR n i j p)) (nxR n i j p) (fun A4 q1 q2 q3 => ih (nxR n i j p) _ (nxR n i j p) A4 (by omega) hpn (isMl_cg (isMl_new (T := fun r => eqN n (nxR n i j p) r) hM hpn (fun _ _ => rfl) (fun r s _ e => LN_cg h.sy e) (fun r _ hr => hr) (fun l' q' e => by cases e; omega)) (fun r hr => (lySt_nx hx hp0 hr).symm)) q1 q2 q3) (n + 1) 0 A2 (by omega) (by omega) hA3 hT2 (fun i hi => absurd hi (by omega))
        · refine z_goto F (tgt := 33) dX6_goesThrough_50 (by decide) ?_
          refine z_loc _ ?_ (ih (nxR n i j p) l q A2 (by omega) hpn (isMl_cg (isMl_keep (T := fun r => eqN n (nxR n i j p) r) hM (fun r hr hT => ⟨by rw [← LN_cg h.sy hT]; omega, lxL_cong (fun _ _ => rfl) hT ?_⟩)) (fun r hr => (lySt_nx hx hp0 hr).symm)) hA3 hT2 (fun k hk => by rw [hA2.at 64 rfl]; exact h64 k hk))
          · exact ⟨rfl, rfl, trivial⟩
          · rcases b1_ with z | z
            · exact lxL_tr z (nxR_lt hx)
            · exact lxL_cong (eqN_s z) (fun _ _ => rfl) (nxR_lt hx)
  have M0 : isMl n (LN n f w) (lySt n (fun i => i)) (some (LN n f w (fun i => i), fun i => i)) := ⟨fun r hr hs => ⟨_, _, rfl, by
    rcases hs with z | z
    · rcases lx_id hr with e | e
      · exact absurd (lxL_cong (eqN_s e) (fun _ _ => rfl) z) lxL_irr
      · exact absurd (lxL_tr e z) lxL_irr
    · exact Or.inr ⟨LN_cg h.sy (eqN_s z), Or.inl (eqN_s z)⟩⟩, fun l q e => by cases e; exact ⟨Or.inr (fun _ _ => rfl), isP_id n, rfl⟩⟩
  have hl0 := hbd _ (isP_id n)
  have copy0 : ∀ (m k : Nat) (A1 : Nat → Nat → Int32) , n - k < m → k ≤ n → frm [63, 64] A A1 → (∀ i, i < n → A1 63 i = nI i) → (∀ i, i < k → A1 64 i = nI i) → Z X [some (zr 1 0), some (zi (nI (LN n f w (fun i => i)))), some (zi (nI k)), none] [] [zH, zG F0 G A1 B] 0 0 7 := by
    intro m
    induction m with
    | zero => intro k A1 hm; omega
    | succ m ih =>
      intro k A1 hm hk hA h63 h64
      have t1 := fun z => h63 k z
      have hvb := lxV_lt (isP_id n).1 n (Nat.le_refl _)
      refine z_iload_n F dX6_goesThrough_7 rfl ?_
      refine z_aload_n F dX6_goesThrough_8 rfl ?_
      refine z_mi F rfl 4 rfl (Nat.le_of_ble_eq_true rfl) rfl q1484 dX6_goesThrough_9 ?_
      refine z_ieq (h4) ?_
      refine z_icmp_geN F (by omega) (by omega) (tgt := 33) dX6_goesThrough_12 (by decide) (fun c_12 => ?_) (fun c_12 => ?_)
      · refine z_loc _ ?_ (loop _ (fun i => i) _ (fun i => i) A1 (Nat.lt_succ_self _) (isP_id n) M0 hA h63 (fun i hi => h64 i (by omega)))
        exact ⟨rfl, rfl, trivial⟩
      · have t1 := t1 (by omega)
        refine z_aload_n F dX6_goesThrough_15 rfl ?_
        refine z_ma F rfl 64 rfl (Nat.le_of_ble_eq_true rfl) rfl q1544 dX6_goesThrough_16 ?_
        refine z_iload_n F dX6_goesThrough_19 rfl ?_
        refine z_aload_n F dX6_goesThrough_20 rfl ?_
        refine z_ma F rfl 63 rfl (Nat.le_of_ble_eq_true rfl) rfl q1543 dX6_goesThrough_21 ?_
        refine z_iload_n F dX6_goesThrough_24 rfl ?_
        refine z_ialdGN F rfl rfl (Nat.le_of_ble_eq_true rfl) (by omega) rfl dX6_goesThrough_25 ?_
        refine z_iastGN F rfl rfl (Nat.le_of_ble_eq_true rfl) (by omega) dX6_goesThrough_26 ?_
        refine z_weq (w' := [_, _]) rfl ?_
        refine z_iincN F 1 dX6_goesThrough_27 rfl rfl ?_
        refine z_leq (L' := [_, _, _, _]) rfl ?_
        refine z_goto F (tgt := 7) dX6_goesThrough_30 (by decide) ?_
        refine ih (k + 1) _ (by omega) (by omega) (frm_zup hA (by decide)) (fun i hi => h63 i hi) (fun i hi => ?_)
        rw [zup2_row]
        show (if i = k then _ else A1 64 i) = _
        by_cases e : i = k
        · rw [if_pos e, e]; exact t1
        · rw [if_neg e]; exact h64 i (by omega)
  refine z_aload_n F dX6_goesThrough_0 rfl ?_
  refine z_callV F (c_mlen F0 _ A _ n w f (fun i => i) hn hw hw2 (fun k hk => hk) hId h96 h20 hL h61) 0 rfl (lw_V q2051 q2053 qs89 q117 q2054) (by decide +kernel) ⟨Nat.le_of_ble_eq_true rfl, Nat.le_of_ble_eq_true rfl⟩ ⟨by omega, by omega⟩ [0, 1] 2 ⟨rfl, rfl, rfl, ⟨Or.inl rfl, Or.inr rfl, trivial⟩⟩ (fun h => nomatch h) (Nat.le_of_ble_eq_true rfl) ⟨⟨Or.inr trivial, Or.inl rfl, trivial⟩, rfl, rfl, rfl, Nat.le_of_ble_eq_true rfl⟩ rfl zC6 (zat_G0 rfl) rfl dX6_goesThrough_1 (fun r_1 w_1 hp => ?_) (fun _ _ h => h.elim)
  obtain ⟨rfl, rfl⟩ := hp
  refine z_weq (w' := [zH, zG _ _ _ _]) rfl ?_
  refine z_seq (S' := zi _ :: _) rfl ?_
  refine z_istore_n F dX6_goesThrough_4 (Nat.le_of_ble_eq_true rfl) ?_
  refine z_leq (L' := [_, _, _, _]) rfl ?_
  refine z_iconst F (nI 0) dX6_goesThrough_5 rfl ?_
  refine z_istore_n F dX6_goesThrough_6 (Nat.le_of_ble_eq_true rfl) ?_
  refine z_leq (L' := [_, _, _, _]) rfl ?_
  exact copy0 (n + 1) 0 A (by omega) (by omega) frm.rf hId (fun i hi => absurd hi (by omega))
end C9r
