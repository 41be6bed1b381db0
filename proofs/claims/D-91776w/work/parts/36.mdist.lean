/-! the reference: all distances, price, girth -/
section C36
theorem mwr_bd {n : Nat} {f : Nat → Int32} {st : Int32} {a : Nat} {p0 : Nat × Nat} (h0 : p0.1 < 32) : ∀ b, b ≤ 32 → ∀ p, mwr n f st a (some p0) b = some p → p.1 < 32 ∧ p.2 ≤ p0.2 + 32 * b
  | 0, _, p, h => by cases h; exact ⟨h0, by omega⟩
  | b + 1, hb, p, h => by
    rw [mwr] at h
    cases hq : mwr n f st a (some p0) b with
    | none => rw [hq] at h; cases h
    | some q =>
      obtain ⟨i1, i2⟩ := mwr_bd h0 b (by omega) q hq
      rw [hq] at h
      simp only at h
      split at h
      · cases hd : dst n f st a b with
        | none => rw [hd] at h; cases h
        | some d =>
          rw [hd] at h
          cases h
          have := dst_lt hd (by omega)
          exact ⟨by show max q.1 d < 32; omega, by show q.2 + d ≤ _; omega⟩
      · cases h; exact ⟨i1, by omega⟩
theorem mw_bd {n : Nat} {f : Nat → Int32} {st : Int32} : ∀ a, a ≤ 32 → ∀ p, mw n f st a = some p → p.1 < 32 ∧ p.2 ≤ 1024 * a
  | 0, _, p, h => by cases h; exact ⟨by decide, by decide⟩
  | a + 1, ha, p, h => by
    rw [mw] at h
    split at h
    · cases hq : mw n f st a with
      | none => rw [hq, mwr_none] at h; cases h
      | some q =>
        obtain ⟨i1, i2⟩ := mw_bd a (by omega) q hq
        rw [hq] at h
        have := mwr_bd i1 a (by omega) p h
        exact ⟨this.1, by omega⟩
    · have := mw_bd a (by omega) p h
      exact ⟨this.1, by omega⟩
theorem mw_stay {n : Nat} {f : Nat → Int32} {st : Int32} {a : Nat} (h : mw n f st a = none) : ∀ m, a ≤ m → mw n f st m = none
  | 0, hm => by obtain rfl : a = 0 := by omega
                exact h
  | m + 1, hm => by
    by_cases q : a = m + 1
    · subst q; exact h
    · have := mw_stay h m (by omega)
      rw [mw]; split
      · rw [this, mwr_none]
      · exact this
theorem mwr_stay {n : Nat} {f : Nat → Int32} {st : Int32} {a : Nat} {o : Option (Nat × Nat)} {b : Nat} (h : mwr n f st a o b = none) : ∀ m, b ≤ m → mwr n f st a o m = none
  | 0, hm => by obtain rfl : b = 0 := by omega
                exact h
  | m + 1, hm => by
    by_cases q : b = m + 1
    · subst q; exact h
    · rw [mwr, mwr_stay h m (by omega)]
theorem c_mall (F0 : Nat → Int32) (G : Nat → Int64) (A : Nat → Nat → Int32) (B : Nat → Nat → Int64) (n : Nat) (hn : n ≤ 24) (h4 : F0 4 = nI n) :
    zCtr yX6_all cX6_all 1 (some .int) 0 0 0 [zr 1 0] [zH, zG F0 G A B] (fun r w => r = some (zi (allB n)) ∧ w = [zH, zG F0 G A B]) zNx := by
  refine z_start (by decide) [some (zr 1 0)] rfl (fun _ => Nat.le_of_ble_eq_true rfl) (fun _ => rfl) (fun X F E hno hin => ?_)
  refine z_iconst F (nI 1) dX6_all_0 rfl ?_
  refine z_aload_n F dX6_all_1 rfl ?_
  refine z_mi F rfl 4 rfl (Nat.le_of_ble_eq_true rfl) rfl q1484 dX6_all_2 ?_
  refine z_ieq (h4) ?_
  refine z_ishl F dX6_all_5 ?_
  refine z_iconst F (nI 1) dX6_all_6 rfl ?_
  refine z_isub F dX6_all_7 ?_
  exact z_iret F E rfl dX6_all_8 (by omega) (by omega) (⟨rfl, rfl⟩)
theorem c_isWhole (F0 : Nat → Int32) (G : Nat → Int64) (A : Nat → Nat → Int32) (B : Nat → Nat → Int64) (n : Nat) (f : Nat → Int32) (st : Int32) (hn : n ≤ 24) (hst : ∀ i, i < 32 → bt st i = true → i < n) (h4 : F0 4 = nI n) (hf : ∀ k, k < n → A 6 k = f k) :
    zCtr yX6_isWhole cX6_isWhole 5 (some .boolean) 1 0 0 [zr 1 0, zi st] [zH, zG F0 G A B] (fun r w => r = some (zi (bI (mw n f st n).isSome)) ∧ ∃ F' A', w = [zH, zG F' G A' B] ∧ frm [24, 25] F0 F' ∧ frm [23] A A' ∧ ∀ p, mw n f st n = some p → F' 24 = nI p.1 ∧ F' 25 = nI p.2) zNx := by
  refine z_start (by decide) [some (zr 1 0), some (zi st), none, none, none] rfl (fun _ => Nat.le_of_ble_eq_true rfl) (fun _ => rfl) (fun X F E hno hin => ?_)
  have inner : ∀ a, a < n → bt st a = true → ∀ p0, mw n f st a = some p0 → ∀ (m b : Nat) (p : Nat × Nat) (F' : Nat → Int32) (A' : Nat → Nat → Int32), a - b < m → b ≤ a → mwr n f st a (some p0) b = some p → frm [24, 25] F0 F' → F' 24 = nI p.1 → F' 25 = nI p.2 → frm [23] A A' → (∀ k, k < n → A' 23 (24 * a + k) = dI (dst n f st a k)) →
      (∀ F2 p2, mw n f st (a + 1) = some p2 → frm [24, 25] F0 F2 → F2 24 = nI p2.1 → F2 25 = nI p2.2 → Z X [some (zr 1 0), some (zi st), some (zi (nI (a + 1))), none, none] [] [zH, zG F2 G A' B] 0 0 12) →
      ∀ o, Z X [some (zr 1 0), some (zi st), some (zi (nI a)), some (zi (nI b)), o] [] [zH, zG F' G A' B] 0 0 39 := by
    intro a ha hsa p0 hp0 m
    obtain ⟨q1, q2⟩ := mw_bd a (by omega) p0 hp0
    induction m with
    | zero => intro b p F' A' hm; omega
    | succ m ih =>
      intro b p F' A' hm hb hp hF f24 f25 hA h23 kk o
      obtain ⟨q3, q4⟩ := mwr_bd q1 b (by omega) p hp
      have J : ∀ d, dst n f st a b = some d → b < a → bt st b = true → Z X [some (zr 1 0), some (zi st), some (zi (nI a)), some (zi (nI b)), some (zi (nI d))] [] [zH, zG F' G A' B] 0 0 76 := by
        intro d hd hba hsb
        have hd32 := dst_lt hd (by omega)
        have e1 : mwr n f st a (some p0) (b + 1) = some (max p.1 d, p.2 + d) := by rw [mwr, hp]; simp only; rw [if_pos hsb, hd]
        refine z_aload_n F dX6_isWhole_76 rfl ?_
        refine z_dup F dX6_isWhole_77 rfl ?_
        refine z_mi F rfl 25 rfl (Nat.le_of_ble_eq_true rfl) rfl q1505 dX6_isWhole_78 ?_
        refine z_ieq ((show _ = nI p.2 from f25)) ?_
        refine z_iload F dX6_isWhole_81 rfl ?_
        refine z_iaddN F dX6_isWhole_83 ?_
        refine z_pmi F rfl 25 rfl (Nat.le_of_ble_eq_true rfl) rfl q1505 rfl rfl rfl dX6_isWhole_84 ?_
        refine z_weq (w' := [_, _]) rfl ?_
        refine z_aload_n F dX6_isWhole_87 rfl ?_
        refine z_iload F dX6_isWhole_88 rfl ?_
        refine z_aload_n F dX6_isWhole_90 rfl ?_
        refine z_mi F rfl 24 rfl (Nat.le_of_ble_eq_true rfl) rfl q1504 dX6_isWhole_91 ?_
        refine z_ieq ((show _ = nI p.1 from f24)) ?_
        refine z_icmp_leN F (by omega) (by omega) (tgt := 102) dX6_isWhole_94 (by decide) (fun c_94 => ?_) (fun c_94 => ?_)
        · refine z_aload_n F dX6_isWhole_102 rfl ?_
          refine z_mi F rfl 24 rfl (Nat.le_of_ble_eq_true rfl) rfl q1504 dX6_isWhole_103 ?_
          refine z_ieq ((show _ = nI p.1 from f24)) ?_
          refine z_pmi F rfl 24 rfl (Nat.le_of_ble_eq_true rfl) rfl q1504 rfl rfl rfl dX6_isWhole_106 ?_
          refine z_weq (w' := [_, _]) rfl ?_
          refine z_iincN F 1 dX6_isWhole_109 rfl rfl ?_
          refine z_leq (L' := [_, _, _, _, _]) rfl ?_
          refine z_goto F (tgt := 39) dX6_isWhole_112 (by decide) ?_
          exact ih (b + 1) _ _ _ (by omega) (by omega) e1 (frm_upd (frm_upd hF (by decide)) (by decide)) (by first | (show nI p.1 = nI (max p.1 d); rw [Nat.max_eq_left (by omega)]) | (show nI d = nI (max p.1 d); rw [Nat.max_eq_right (by omega)])) rfl hA h23 kk _
        · refine z_iload F dX6_isWhole_97 rfl ?_
          refine z_goto F (tgt := 106) dX6_isWhole_99 (by decide) ?_
          refine z_pmi F rfl 24 rfl (Nat.le_of_ble_eq_true rfl) rfl q1504 rfl rfl rfl dX6_isWhole_106 ?_
          refine z_weq (w' := [_, _]) rfl ?_
          refine z_iincN F 1 dX6_isWhole_109 rfl rfl ?_
          refine z_leq (L' := [_, _, _, _, _]) rfl ?_
          refine z_goto F (tgt := 39) dX6_isWhole_112 (by decide) ?_
          exact ih (b + 1) _ _ _ (by omega) (by omega) e1 (frm_upd (frm_upd hF (by decide)) (by decide)) (by first | (show nI p.1 = nI (max p.1 d); rw [Nat.max_eq_left (by omega)]) | (show nI d = nI (max p.1 d); rw [Nat.max_eq_right (by omega)])) rfl hA h23 kk _
      refine z_iload_n F dX6_isWhole_39 rfl ?_
      refine z_iload_n F dX6_isWhole_40 rfl ?_
      refine z_icmp_geN F (by omega) (by omega) (tgt := 115) dX6_isWhole_41 (by decide) (fun c_41 => ?_) (fun c_41 => ?_)
      · have eb : b = a := by omega
        subst eb
        refine z_iincN F 1 dX6_isWhole_115 rfl rfl ?_
        refine z_leq (L' := [_, _, _, _, _]) rfl ?_
        refine z_goto F (tgt := 12) dX6_isWhole_118 (by decide) ?_
        refine z_loc _ ?_ (kk F' p (by rw [mw, if_pos hsa, hp0]; exact hp) hF f24 f25)
        exact ⟨rfl, rfl, rfl, trivial⟩
      · refine z_iload_n F dX6_isWhole_44 rfl ?_
        refine z_iload_n F dX6_isWhole_45 rfl ?_
        refine z_ishr F dX6_isWhole_46 ?_
        refine z_iconst F (nI 1) dX6_isWhole_47 rfl ?_
        refine z_iandB F (by omega) dX6_isWhole_48 ?_
        refine z_if_neB F (tgt := 55) dX6_isWhole_49 (by decide) (fun c_49 => ?_) (fun c_49 => ?_)
        · refine z_aload_n F dX6_isWhole_55 rfl ?_
          refine z_ma F rfl 23 rfl (Nat.le_of_ble_eq_true rfl) rfl q1503 dX6_isWhole_56 ?_
          refine z_bipush F (nI 24) dX6_isWhole_59 rfl ?_
          refine z_iload_n F dX6_isWhole_61 rfl ?_
          refine z_imulN F dX6_isWhole_62 ?_
          refine z_iload_n F dX6_isWhole_63 rfl ?_
          refine z_iaddN F dX6_isWhole_64 ?_
          refine z_ialdGN F rfl rfl (Nat.le_of_ble_eq_true rfl) (by omega) rfl dX6_isWhole_65 ?_
          refine z_ieq (h23 b (by omega)) ?_
          refine z_istore F dX6_isWhole_66 (Nat.le_of_ble_eq_true rfl) ?_
          refine z_leq (L' := [_, _, _, _, _]) rfl ?_
          refine z_iload F dX6_isWhole_68 rfl ?_
          refine z_iconst F (-1) dX6_isWhole_70 rfl ?_
          refine z_icmp_ne F (tgt := 76) dX6_isWhole_71 (by decide) (fun c_71 => ?_) (fun c_71 => ?_)
          · obtain ⟨d, hd⟩ : ∃ d, dst n f st a b = some d := by
              cases hq : dst n f st a b with
              | none => exact absurd (by rw [hq]; rfl) c_71
              | some d => exact ⟨d, rfl⟩
            refine z_leq (L' := [some (zr 1 0), some (zi st), some (zi (nI a)), some (zi (nI b)), some (zi (nI d))]) (by rw [hd]; rfl) ?_
            exact J d hd (by omega) c_49
          · have hd : dst n f st a b = none := by
              cases hq : dst n f st a b with
              | none => rfl
              | some d =>
                have := dst_lt hq (by omega)
                rw [hq] at c_71
                exact absurd c_71 ((by decide : ∀ d, d < 32 → ¬ nI d = -1) d this)
            have e1 : mwr n f st a (some p0) (b + 1) = none := by rw [mwr, hp]; simp only; rw [if_pos c_49, hd]
            have e2 : mw n f st (a + 1) = none := by rw [mw, if_pos hsa, hp0]; exact mwr_stay e1 a (by omega)
            have e3 := mw_stay e2 n (by omega)
            refine z_iconstB F false dX6_isWhole_74 rfl ?_
            exact z_zret F E rfl rfl dX6_isWhole_75 (by omega) (by omega) (⟨by rw [e3]; rfl, F', A', rfl, hF, hA, fun p hp => by rw [e3] at hp; cases hp⟩)
        · refine z_goto F (tgt := 109) dX6_isWhole_52 (by decide) ?_
          refine z_iincN F 1 dX6_isWhole_109 rfl rfl ?_
          refine z_leq (L' := [_, _, _, _, _]) rfl ?_
          refine z_goto F (tgt := 39) dX6_isWhole_112 (by decide) ?_
          exact ih (b + 1) p _ _ (by omega) (by omega) (by rw [mwr, hp]; simp only; rw [if_neg (by rw [c_49]; decide)]) hF f24 f25 hA h23 kk _
  have outer : ∀ (m a : Nat) (p : Nat × Nat) (F' : Nat → Int32) (A' : Nat → Nat → Int32), n - a < m → a ≤ n → mw n f st a = some p → frm [24, 25] F0 F' → F' 24 = nI p.1 → F' 25 = nI p.2 → frm [23] A A' → Z X [some (zr 1 0), some (zi st), some (zi (nI a)), none, none] [] [zH, zG F' G A' B] 0 0 12 := by
    intro m
    induction m with
    | zero => intro a p F' A' hm; omega
    | succ m ih =>
      intro a p F' A' hm ha hp hF f24 f25 hA
      refine z_iload_n F dX6_isWhole_12 rfl ?_
      refine z_aload_n F dX6_isWhole_13 rfl ?_
      refine z_mi F rfl 4 rfl (Nat.le_of_ble_eq_true rfl) rfl q1484 dX6_isWhole_14 ?_
      refine z_ieq ((hF.at 4 rfl).trans h4) ?_
      refine z_icmp_geN F (by omega) (by omega) (tgt := 121) dX6_isWhole_17 (by decide) (fun c_17 => ?_) (fun c_17 => ?_)
      · have ea : a = n := by omega
        subst ea
        refine z_iconstB F true dX6_isWhole_121 rfl ?_
        exact z_zret F E rfl rfl dX6_isWhole_122 (by omega) (by omega) (⟨by rw [hp]; rfl, F', A', rfl, hF, hA, fun p' h => by rw [hp] at h; cases h; exact ⟨f24, f25⟩⟩)
      · refine z_iload_n F dX6_isWhole_20 rfl ?_
        refine z_iload_n F dX6_isWhole_21 rfl ?_
        refine z_ishr F dX6_isWhole_22 ?_
        refine z_iconst F (nI 1) dX6_isWhole_23 rfl ?_
        refine z_iandB F (by omega) dX6_isWhole_24 ?_
        refine z_if_neB F (tgt := 31) dX6_isWhole_25 (by decide) (fun c_25 => ?_) (fun c_25 => ?_)
        · refine z_aload_n F dX6_isWhole_31 rfl ?_
          refine z_iload_n F dX6_isWhole_32 rfl ?_
          refine z_iload_n F dX6_isWhole_33 rfl ?_
          refine z_callV F (c_spreads _ _ _ _ n a f st hn (by omega) hst ((hF.at 4 rfl).trans h4) (fun k hk => (congrFun (hA.at 6 rfl) k).trans (hf k hk))) 2 rfl (lw_V q1884 q1886 qs64 q117 q1887) (by decide +kernel) ⟨Nat.le_of_ble_eq_true rfl, Nat.le_of_ble_eq_true rfl⟩ ⟨by omega, by omega⟩ [0, 1] 2 ⟨rfl, rfl, rfl, ⟨Or.inl rfl, Or.inr rfl, trivial⟩⟩ (fun h => nomatch h) (Nat.le_of_ble_eq_true rfl) ⟨⟨Or.inr trivial, Or.inl rfl, trivial⟩, rfl, rfl, rfl, Nat.le_of_ble_eq_true rfl⟩ rfl zC6 (zat_G0 rfl) rfl dX6_isWhole_34 (fun r_34 w_34 hp => ?_) (fun _ _ h => h.elim)
          obtain ⟨rfl, A1, rfl, a1, a2, a3⟩ := hp
          refine z_weq (w' := [zH, zG _ _ _ _]) rfl ?_
          refine z_seq (S' := []) rfl ?_
          refine z_iconst F (nI 0) dX6_isWhole_37 rfl ?_
          refine z_istore_n F dX6_isWhole_38 (Nat.le_of_ble_eq_true rfl) ?_
          refine z_leq (L' := [_, _, _, _, _]) rfl ?_
          exact inner a (by omega) c_25 p (by assumption) _ 0 p F' A1 (Nat.lt_succ_self _) (by omega) rfl hF f24 f25 (hA.tr a1 (by decide) (by decide)) a2 (fun F2 p2 h1 h2 h3 h4 => ih (a + 1) p2 F2 A1 (by omega) (by omega) h1 h2 h3 h4 (hA.tr a1 (by decide) (by decide))) _
        · refine z_goto F (tgt := 115) dX6_isWhole_28 (by decide) ?_
          refine z_iincN F 1 dX6_isWhole_115 rfl rfl ?_
          refine z_leq (L' := [_, _, _, _, _]) rfl ?_
          refine z_goto F (tgt := 12) dX6_isWhole_118 (by decide) ?_
          exact ih (a + 1) p _ _ (by omega) (by omega) (by rw [mw, if_neg (by rw [c_25]; decide)]; exact hp) hF f24 f25 hA
  refine z_aload_n F dX6_isWhole_0 rfl ?_
  refine z_iconst F (nI 0) dX6_isWhole_1 rfl ?_
  refine z_pmi F rfl 24 rfl (Nat.le_of_ble_eq_true rfl) rfl q1504 rfl rfl rfl dX6_isWhole_2 ?_
  refine z_weq (w' := [_, _]) rfl ?_
  refine z_aload_n F dX6_isWhole_5 rfl ?_
  refine z_iconst F (nI 0) dX6_isWhole_6 rfl ?_
  refine z_pmi F rfl 25 rfl (Nat.le_of_ble_eq_true rfl) rfl q1505 rfl rfl rfl dX6_isWhole_7 ?_
  refine z_weq (w' := [_, _]) rfl ?_
  refine z_iconst F (nI 0) dX6_isWhole_10 rfl ?_
  refine z_istore_n F dX6_isWhole_11 (Nat.le_of_ble_eq_true rfl) ?_
  refine z_leq (L' := [_, _, _, _, _]) rfl ?_
  exact outer _ 0 (0, 0) _ _ (Nat.lt_succ_self _) (by omega) rfl (frm_upd (frm_upd frm.rf (by decide)) (by decide)) rfl rfl frm.rf
theorem c_mprice (F0 : Nat → Int32) (G : Nat → Int64) (A : Nat → Nat → Int32) (B : Nat → Nat → Int64) (n : Nat) (f : Nat → Int32) (hn : n ≤ 24) (h4 : F0 4 = nI n) (hf : ∀ k, k < n → A 6 k = f k) :
    zCtr yX6_price cX6_price 1 (some .int) 2 0 0 [zr 1 0] [zH, zG F0 G A B] (fun r w => r = some (zi (nI (mpr n f))) ∧ ∃ F' A', w = [zH, zG F' G A' B] ∧ frm [24, 25] F0 F' ∧ frm [23] A A') zNx := by
  refine z_start (by decide) [some (zr 1 0)] rfl (fun _ => Nat.le_of_ble_eq_true rfl) (fun _ => rfl) (fun X F E hno hin => ?_)
  have hall : ∀ i, i < 32 → bt (allB n) i = true → i < n := fun i _ h => by rw [bt_allB hn] at h; simpa using h
  refine z_aload_n F dX6_price_0 rfl ?_
  refine z_aload_n F dX6_price_1 rfl ?_
  refine z_callV F (c_mall _ _ _ _ n hn h4) 0 rfl (lw_V q1880 q1882 qs63 q117 q1883) (by decide +kernel) ⟨Nat.le_of_ble_eq_true rfl, Nat.le_of_ble_eq_true rfl⟩ ⟨by omega, by omega⟩ [0, 1] 2 ⟨rfl, rfl, rfl, ⟨Or.inl rfl, Or.inr rfl, trivial⟩⟩ (fun h => nomatch h) (Nat.le_of_ble_eq_true rfl) ⟨⟨Or.inr trivial, Or.inl rfl, trivial⟩, rfl, rfl, rfl, Nat.le_of_ble_eq_true rfl⟩ rfl zC6 (zat_G0 rfl) rfl dX6_price_2 (fun r_2 w_2 hp => ?_) (fun _ _ h => h.elim)
  obtain ⟨rfl, rfl⟩ := hp
  refine z_weq (w' := [zH, zG _ _ _ _]) rfl ?_
  refine z_seq (S' := zi _ :: _) rfl ?_
  refine z_callV F (c_isWhole _ _ _ _ n f _ hn hall h4 hf) 1 rfl (lw_V q1920 q1922 qs72 q117 q1923) (by decide +kernel) ⟨Nat.le_of_ble_eq_true rfl, Nat.le_of_ble_eq_true rfl⟩ ⟨by omega, by omega⟩ [0, 1] 2 ⟨rfl, rfl, rfl, ⟨Or.inl rfl, Or.inr rfl, trivial⟩⟩ (fun h => nomatch h) (Nat.le_of_ble_eq_true rfl) ⟨⟨Or.inr trivial, Or.inl rfl, trivial⟩, rfl, rfl, rfl, Nat.le_of_ble_eq_true rfl⟩ rfl zC6 (zat_G0 rfl) rfl dX6_price_5 (fun r_5 w_5 hp => ?_) (fun _ _ h => h.elim)
  obtain ⟨rfl, F1, A1, rfl, f1, f2, f3⟩ := hp
  refine z_weq (w' := [zH, zG _ _ _ _]) rfl ?_
  refine z_seq (S' := zi _ :: _) rfl ?_
  refine z_if_eqB F (tgt := 27) dX6_price_8 (by decide) (fun c_8 => ?_) (fun c_8 => ?_)
  · have e0 : mpr n f = 1000000 := by
      unfold mpr
      cases hq : mw n f (allB n) n with
      | none => rfl
      | some p => rw [hq] at c_8; cases c_8
    refine z_ldcw F dX6_price_27 q1924 ?_
    exact z_iret F E rfl dX6_price_30 (by omega) (by omega) (⟨by rw [e0] <;> rfl, F1, A1, rfl, f1, f2⟩)
  · obtain ⟨p, hq⟩ : ∃ p, mw n f (allB n) n = some p := by
      cases hq : mw n f (allB n) n with
      | none => rw [hq] at c_8; cases c_8
      | some p => exact ⟨p, rfl⟩
    have e0 : mpr n f = 1000 * p.1 + p.2 := by unfold mpr; rw [hq]
    obtain ⟨g1, g2⟩ := f3 p hq
    have gb := mw_bd n (by omega) p hq
    refine z_sipush F (nI 1000) dX6_price_11 rfl ?_
    refine z_aload_n F dX6_price_14 rfl ?_
    refine z_mi F rfl 24 rfl (Nat.le_of_ble_eq_true rfl) rfl q1504 dX6_price_15 ?_
    refine z_ieq (g1) ?_
    refine z_imulN F dX6_price_18 ?_
    refine z_aload_n F dX6_price_19 rfl ?_
    refine z_mi F rfl 25 rfl (Nat.le_of_ble_eq_true rfl) rfl q1505 dX6_price_20 ?_
    refine z_ieq (g2) ?_
    refine z_iaddN F dX6_price_23 ?_
    refine z_goto F (tgt := 30) dX6_price_24 (by decide) ?_
    exact z_iret F E rfl dX6_price_30 (by omega) (by omega) (⟨by rw [e0] <;> rfl, F1, A1, rfl, f1, f2⟩)
theorem c_measures (F0 : Nat → Int32) (G : Nat → Int64) (A : Nat → Nat → Int32) (B : Nat → Nat → Int64) (n : Nat) (f : Nat → Int32) (hn : n ≤ 24) (h4 : F0 4 = nI n) (hf : ∀ k, k < n → A 6 k = f k) :
    zCtr yX6_measures cX6_measures 2 none 1 0 0 [zr 1 0] [zH, zG F0 G A B] (fun r w => r = none ∧ ∃ A', w = [zH, zG F0 G A' B] ∧ frm [23] A A' ∧ ∀ a k, a < n → k < n → A' 23 (24 * a + k) = dI (dst n f (allB n) a k)) zNx := by
  refine z_start (by decide) [some (zr 1 0), none] rfl (fun _ => Nat.le_of_ble_eq_true rfl) (fun _ => rfl) (fun X F E hno hin => ?_)
  have hall : ∀ i, i < 32 → bt (allB n) i = true → i < n := fun i _ h => by rw [bt_allB hn] at h; simpa using h
  have loop : ∀ (m a : Nat) (A' : Nat → Nat → Int32), n - a < m → a ≤ n → frm [23] A A' → (∀ b k, b < a → k < n → A' 23 (24 * b + k) = dI (dst n f (allB n) b k)) → Z X [some (zr 1 0), some (zi (nI a))] [] [zH, zG F0 G A' B] 0 0 2 := by
    intro m
    induction m with
    | zero => intro a A' hm; omega
    | succ m ih =>
      intro a A' hm ha hA h23
      refine z_iload_n F dX6_measures_2 rfl ?_
      refine z_aload_n F dX6_measures_3 rfl ?_
      refine z_mi F rfl 4 rfl (Nat.le_of_ble_eq_true rfl) rfl q1484 dX6_measures_4 ?_
      refine z_ieq (h4) ?_
      refine z_icmp_geN F (by omega) (by omega) (tgt := 25) dX6_measures_7 (by decide) (fun c_7 => ?_) (fun c_7 => ?_)
      · have ea : a = n := by omega
        subst ea
        exact z_vret F E rfl dX6_measures_25 (by omega) (by omega) (⟨rfl, A', rfl, hA, h23⟩)
      · refine z_aload_n F dX6_measures_10 rfl ?_
        refine z_iload_n F dX6_measures_11 rfl ?_
        refine z_aload_n F dX6_measures_12 rfl ?_
        refine z_callV F (c_mall _ _ _ _ n hn h4) 0 rfl (lw_V q1880 q1882 qs63 q117 q1883) (by decide +kernel) ⟨Nat.le_of_ble_eq_true rfl, Nat.le_of_ble_eq_true rfl⟩ ⟨by omega, by omega⟩ [0, 1] 2 ⟨rfl, rfl, rfl, ⟨Or.inl rfl, Or.inr rfl, trivial⟩⟩ (fun h => nomatch h) (Nat.le_of_ble_eq_true rfl) ⟨⟨Or.inr trivial, Or.inl rfl, trivial⟩, rfl, rfl, rfl, Nat.le_of_ble_eq_true rfl⟩ rfl zC6 (zat_G0 rfl) rfl dX6_measures_13 (fun r_13 w_13 hp => ?_) (fun _ _ h => h.elim)
        obtain ⟨rfl, rfl⟩ := hp
        refine z_weq (w' := [zH, zG _ _ _ _]) rfl ?_
        refine z_seq (S' := zi _ :: _) rfl ?_
        refine z_callV F (c_spreads _ _ _ _ n a f _ hn (by omega) hall h4 (fun k hk => (congrFun (hA.at 6 rfl) k).trans (hf k hk))) 2 rfl (lw_V q1884 q1886 qs64 q117 q1887) (by decide +kernel) ⟨Nat.le_of_ble_eq_true rfl, Nat.le_of_ble_eq_true rfl⟩ ⟨by omega, by omega⟩ [0, 1] 2 ⟨rfl, rfl, rfl, ⟨Or.inl rfl, Or.inr rfl, trivial⟩⟩ (fun h => nomatch h) (Nat.le_of_ble_eq_true rfl) ⟨⟨Or.inr trivial, Or.inl rfl, trivial⟩, rfl, rfl, rfl, Nat.le_of_ble_eq_true rfl⟩ rfl zC6 (zat_G0 rfl) rfl dX6_measures_16 (fun r_16 w_16 hp => ?_) (fun _ _ h => h.elim)
        obtain ⟨rfl, A1, rfl, a1, a2, a3⟩ := hp
        refine z_weq (w' := [zH, zG _ _ _ _]) rfl ?_
        refine z_seq (S' := []) rfl ?_
        refine z_iincN F 1 dX6_measures_19 rfl rfl ?_
        refine z_leq (L' := [_, _]) rfl ?_
        refine z_goto F (tgt := 2) dX6_measures_22 (by decide) ?_
        refine ih (a + 1) _ (by omega) (by omega) (hA.tr a1 (by decide) (by decide)) (fun b k hb hk => ?_)
        by_cases q : b = a
        · subst q; exact a2 k hk
        · rw [a3 _ (by omega)]; exact h23 b k (by omega) hk
  refine z_iconst F (nI 0) dX6_measures_0 rfl ?_
  refine z_istore_n F dX6_measures_1 (Nat.le_of_ble_eq_true rfl) ?_
  refine z_leq (L' := [_, _]) rfl ?_
  exact loop _ 0 _ (Nat.lt_succ_self _) (by omega) frm.rf (fun b k hb => by omega)
theorem c_mdist_ok (F0 : Nat → Int32) (G : Nat → Int64) (A : Nat → Nat → Int32) (B : Nat → Nat → Int64) (j n : Nat) (d : Int32) (f : Nat → Int32) (a b : Nat) (hj : j < 8) (hn : 0 < n) (hn2 : n ≤ 24) (hs : Slt A j n d f) (ha : a < n) (hb : b < n) :
    zCtr yX6_distance cX6_distance 4 (some .int) 2 0 0 [zr 1 0, zi (nI j), zi (nI a), zi (nI b)] [zH, zG F0 G A B] (fun r w => r = some (zi (dI (dst n f (allB n) a b))) ∧ ∃ F' A', w = [zH, zG F' G A' B] ∧ F' 0 = nI 0 ∧ frm [0, 4, 5] F0 F' ∧ frm [6, 23] A A') zNx := by
  refine z_start (by decide) [some (zr 1 0), some (zi (nI j)), some (zi (nI a)), some (zi (nI b))] rfl (fun _ => Nat.le_of_ble_eq_true rfl) (fun _ => rfl) (fun X F E hno hin => ?_)
  have hall : ∀ i, i < 32 → bt (allB n) i = true → i < n := fun i _ h => by rw [bt_allB hn2] at h; simpa using h
  refine z_aload_n F dX6_distance_0 rfl ?_
  refine z_iload_n F dX6_distance_1 rfl ?_
  refine z_callV F (c_lays_ok _ _ _ _ j n d f hj hn hn2 hs) 1 rfl (lw_V q1732 q1734 qs42 q117 q1735) (by decide +kernel) ⟨Nat.le_of_ble_eq_true rfl, Nat.le_of_ble_eq_true rfl⟩ ⟨by omega, by omega⟩ [0, 1] 2 ⟨rfl, rfl, rfl, ⟨Or.inl rfl, Or.inr rfl, trivial⟩⟩ (fun h => nomatch h) (Nat.le_of_ble_eq_true rfl) ⟨⟨Or.inr trivial, Or.inl rfl, trivial⟩, rfl, rfl, rfl, Nat.le_of_ble_eq_true rfl⟩ rfl zC6 (zat_G0 rfl) rfl dX6_distance_2 (fun r_2 w_2 hp => ?_) (fun _ _ h => h.elim)
  obtain ⟨rfl, F1, A1, rfl, f0, f1, f2, f3⟩ := hp
  refine z_weq (w' := [zH, zG _ _ _ _]) rfl ?_
  refine z_seq (S' := zi _ :: _) rfl ?_
  refine z_if_eqB F (tgt := 17) dX6_distance_5 (by decide) (fun c_5 => ?_) (fun c_5 => ?_)
  · cases c_5
  · refine z_aload_n F dX6_distance_8 rfl ?_
    refine z_iload_n F dX6_distance_9 rfl ?_
    refine z_iload_n F dX6_distance_10 rfl ?_
    refine z_callV F (c_mhas _ _ _ _ n (nI a) (nI b) f0 f3.1) 2 rfl (lw_V q1740 q1742 qs44 q117 q1743) (by decide +kernel) ⟨Nat.le_of_ble_eq_true rfl, Nat.le_of_ble_eq_true rfl⟩ ⟨by omega, by omega⟩ [0, 1] 2 ⟨rfl, rfl, rfl, ⟨Or.inl rfl, Or.inr rfl, trivial⟩⟩ (fun h => nomatch h) (Nat.le_of_ble_eq_true rfl) ⟨⟨Or.inr trivial, Or.inl rfl, trivial⟩, rfl, rfl, rfl, Nat.le_of_ble_eq_true rfl⟩ rfl zC6 (zat_G0 rfl) rfl dX6_distance_11 (fun r_11 w_11 hp => ?_) (fun _ _ h => h.elim)
    obtain ⟨rfl, rfl⟩ := hp
    rw [knB_n ha (by omega), knB_n hb (by omega), Bool.and_self]
    rw [if_pos rfl]
    refine z_weq (w' := [zH, zG _ _ _ _]) rfl ?_
    refine z_seq (S' := zi _ :: _) rfl ?_
    refine z_if_neB F (tgt := 19) dX6_distance_14 (by decide) (fun c_14 => ?_) (fun c_14 => ?_)
    · refine z_aload_n F dX6_distance_19 rfl ?_
      refine z_iload_n F dX6_distance_20 rfl ?_
      refine z_aload_n F dX6_distance_21 rfl ?_
      refine z_callV F (c_mall _ _ _ _ n hn2 f3.1) 0 rfl (lw_V q1880 q1882 qs63 q117 q1883) (by decide +kernel) ⟨Nat.le_of_ble_eq_true rfl, Nat.le_of_ble_eq_true rfl⟩ ⟨by omega, by omega⟩ [0, 1] 2 ⟨rfl, rfl, rfl, ⟨Or.inl rfl, Or.inr rfl, trivial⟩⟩ (fun h => nomatch h) (Nat.le_of_ble_eq_true rfl) ⟨⟨Or.inr trivial, Or.inl rfl, trivial⟩, rfl, rfl, rfl, Nat.le_of_ble_eq_true rfl⟩ rfl zC6 (zat_G0 rfl) rfl dX6_distance_22 (fun r_22 w_22 hp => ?_) (fun _ _ h => h.elim)
      obtain ⟨rfl, rfl⟩ := hp
      refine z_weq (w' := [zH, zG _ _ _ _]) rfl ?_
      refine z_seq (S' := zi _ :: _) rfl ?_
      refine z_callV F (c_spreads _ _ _ _ n a f _ hn2 ha hall f3.1 (fun k hk => f3.2.2 k (by omega))) 2 rfl (lw_V q1884 q1886 qs64 q117 q1887) (by decide +kernel) ⟨Nat.le_of_ble_eq_true rfl, Nat.le_of_ble_eq_true rfl⟩ ⟨by omega, by omega⟩ [0, 1] 2 ⟨rfl, rfl, rfl, ⟨Or.inl rfl, Or.inr rfl, trivial⟩⟩ (fun h => nomatch h) (Nat.le_of_ble_eq_true rfl) ⟨⟨Or.inr trivial, Or.inl rfl, trivial⟩, rfl, rfl, rfl, Nat.le_of_ble_eq_true rfl⟩ rfl zC6 (zat_G0 rfl) rfl dX6_distance_25 (fun r_25 w_25 hp => ?_) (fun _ _ h => h.elim)
      obtain ⟨rfl, A2, rfl, a1, a2, a3⟩ := hp
      refine z_weq (w' := [zH, zG _ _ _ _]) rfl ?_
      refine z_seq (S' := []) rfl ?_
      refine z_aload_n F dX6_distance_28 rfl ?_
      refine z_ma F rfl 23 rfl (Nat.le_of_ble_eq_true rfl) rfl q1503 dX6_distance_29 ?_
      refine z_bipush F (nI 24) dX6_distance_32 rfl ?_
      refine z_iload_n F dX6_distance_34 rfl ?_
      refine z_imulN F dX6_distance_35 ?_
      refine z_iload_n F dX6_distance_36 rfl ?_
      refine z_iaddN F dX6_distance_37 ?_
      refine z_ialdGN F rfl rfl (Nat.le_of_ble_eq_true rfl) (by omega) rfl dX6_distance_38 ?_
      exact z_iret F E rfl dX6_distance_39 (by omega) (by omega) (⟨by rw [a2 b hb], F1, A2, rfl, f0, f1, f2.tr a1 (by decide) (by decide)⟩)
    · cases c_14
theorem c_moff_ok (F0 : Nat → Int32) (G : Nat → Int64) (A : Nat → Nat → Int32) (B : Nat → Nat → Int64) (j n : Nat) (d : Int32) (f : Nat → Int32) (a b : Nat) (hj : j < 8) (hn : 0 < n) (hn2 : n ≤ 24) (hs : Slt A j n d f) (ha : a < n) (hb : b < n) :
    zCtr yX6_off cX6_off 4 (some .boolean) 2 0 0 [zr 1 0, zi (nI j), zi (nI a), zi (nI b)] [zH, zG F0 G A B] (fun r w => r = some (zi (bI (bt (f a) b))) ∧ ∃ F' A', w = [zH, zG F' G A' B] ∧ F' 0 = nI 0 ∧ frm [0, 4, 5] F0 F' ∧ frm [1, 2, 3, 6] A A' ∧ Slt A' j n d (if bt (f a) b then pt f a b else f) ∧ ∀ i, i < 8 → i ≠ j → SltEq A A' i) zNx := by
  refine z_start (by decide) [some (zr 1 0), some (zi (nI j)), some (zi (nI a)), some (zi (nI b))] rfl (fun _ => Nat.le_of_ble_eq_true rfl) (fun _ => rfl) (fun X F E hno hin => ?_)
  refine z_aload_n F dX6_off_0 rfl ?_
  refine z_iload_n F dX6_off_1 rfl ?_
  refine z_callV F (c_lays_ok _ _ _ _ j n d f hj hn hn2 hs) 1 rfl (lw_V q1732 q1734 qs42 q117 q1735) (by decide +kernel) ⟨Nat.le_of_ble_eq_true rfl, Nat.le_of_ble_eq_true rfl⟩ ⟨by omega, by omega⟩ [0, 1] 2 ⟨rfl, rfl, rfl, ⟨Or.inl rfl, Or.inr rfl, trivial⟩⟩ (fun h => nomatch h) (Nat.le_of_ble_eq_true rfl) ⟨⟨Or.inr trivial, Or.inl rfl, trivial⟩, rfl, rfl, rfl, Nat.le_of_ble_eq_true rfl⟩ rfl zC6 (zat_G0 rfl) rfl dX6_off_2 (fun r_2 w_2 hp => ?_) (fun _ _ h => h.elim)
  obtain ⟨rfl, F1, A1, rfl, f0, f1, f2, f3⟩ := hp
  have g4 := f3.1
  have g5 := f3.2.1
  have ga := f3.2.2 a (by omega)
  refine z_weq (w' := [zH, zG _ _ _ _]) rfl ?_
  refine z_seq (S' := zi _ :: _) rfl ?_
  refine z_if_eqB F (tgt := 17) dX6_off_5 (by decide) (fun c_5 => ?_) (fun c_5 => ?_)
  · cases c_5
  · refine z_aload_n F dX6_off_8 rfl ?_
    refine z_iload_n F dX6_off_9 rfl ?_
    refine z_iload_n F dX6_off_10 rfl ?_
    refine z_callV F (c_mhas _ _ _ _ n (nI a) (nI b) f0 f3.1) 2 rfl (lw_V q1740 q1742 qs44 q117 q1743) (by decide +kernel) ⟨Nat.le_of_ble_eq_true rfl, Nat.le_of_ble_eq_true rfl⟩ ⟨by omega, by omega⟩ [0, 1] 2 ⟨rfl, rfl, rfl, ⟨Or.inl rfl, Or.inr rfl, trivial⟩⟩ (fun h => nomatch h) (Nat.le_of_ble_eq_true rfl) ⟨⟨Or.inr trivial, Or.inl rfl, trivial⟩, rfl, rfl, rfl, Nat.le_of_ble_eq_true rfl⟩ rfl zC6 (zat_G0 rfl) rfl dX6_off_11 (fun r_11 w_11 hp => ?_) (fun _ _ h => h.elim)
    obtain ⟨rfl, rfl⟩ := hp
    rw [knB_n ha (by omega), knB_n hb (by omega), Bool.and_self]
    rw [if_pos rfl]
    refine z_weq (w' := [zH, zG _ _ _ _]) rfl ?_
    refine z_seq (S' := zi _ :: _) rfl ?_
    refine z_if_neB F (tgt := 19) dX6_off_14 (by decide) (fun c_14 => ?_) (fun c_14 => ?_)
    · refine z_aload_n F dX6_off_19 rfl ?_
      refine z_iload_n F dX6_off_20 rfl ?_
      refine z_iload_n F dX6_off_21 rfl ?_
      refine z_callV F (c_isJoined _ _ _ _ a b (by omega) (by omega)) 2 rfl (lw_V q1748 q1750 qs46 q117 q1751) (by decide +kernel) ⟨Nat.le_of_ble_eq_true rfl, Nat.le_of_ble_eq_true rfl⟩ ⟨by omega, by omega⟩ [0, 1] 2 ⟨rfl, rfl, rfl, ⟨Or.inl rfl, Or.inr rfl, trivial⟩⟩ (fun h => nomatch h) (Nat.le_of_ble_eq_true rfl) ⟨⟨Or.inr trivial, Or.inl rfl, trivial⟩, rfl, rfl, rfl, Nat.le_of_ble_eq_true rfl⟩ rfl zC6 (zat_G0 rfl) rfl dX6_off_22 (fun r_22 w_22 hp => ?_) (fun _ _ h => h.elim)
      obtain ⟨rfl, rfl⟩ := hp
      rw [ga]
      refine z_weq (w' := [zH, zG _ _ _ _]) rfl ?_
      refine z_seq (S' := zi _ :: _) rfl ?_
      refine z_if_neB F (tgt := 30) dX6_off_25 (by decide) (fun c_25 => ?_) (fun c_25 => ?_)
      · refine z_aload_n F dX6_off_30 rfl ?_
        refine z_iload_n F dX6_off_31 rfl ?_
        refine z_iload_n F dX6_off_32 rfl ?_
        refine z_callV F (c_parts _ _ _ _ a b (by omega) (by omega)) 2 rfl (lw_V q1763 q1765 qs48 q117 q1766) (by decide +kernel) ⟨Nat.le_of_ble_eq_true rfl, Nat.le_of_ble_eq_true rfl⟩ ⟨by omega, by omega⟩ [0, 1] 2 ⟨rfl, rfl, rfl, ⟨Or.inl rfl, Or.inr rfl, trivial⟩⟩ (fun h => nomatch h) (Nat.le_of_ble_eq_true rfl) ⟨⟨Or.inr trivial, Or.inl rfl, trivial⟩, rfl, rfl, rfl, Nat.le_of_ble_eq_true rfl⟩ rfl zC6 (zat_G0 rfl) rfl dX6_off_33 (fun r_33 w_33 hp => ?_) (fun _ _ h => h.elim)
        obtain ⟨rfl, rfl⟩ := hp
        refine z_weq (w' := [zH, zG _ _ _ _]) rfl ?_
        refine z_seq (S' := []) rfl ?_
        refine z_aload_n F dX6_off_36 rfl ?_
        refine z_iload_n F dX6_off_37 rfl ?_
        refine z_callV F (c_keeps _ _ _ _ j n d (pt f a b) hj ⟨g4, g5, fun k hk => by rw [fA_at]; exact pt_cong f3.2.2 (by omega) (by omega) hk⟩) 1 rfl (lw_V q1724 q1726 qs41 q117 q1727) (by decide +kernel) ⟨Nat.le_of_ble_eq_true rfl, Nat.le_of_ble_eq_true rfl⟩ ⟨by omega, by omega⟩ [0, 1] 2 ⟨rfl, rfl, rfl, ⟨Or.inl rfl, Or.inr rfl, trivial⟩⟩ (fun h => nomatch h) (Nat.le_of_ble_eq_true rfl) ⟨⟨Or.inr trivial, Or.inl rfl, trivial⟩, rfl, rfl, rfl, Nat.le_of_ble_eq_true rfl⟩ rfl zC6 (zat_G0 rfl) rfl dX6_off_38 (fun r_38 w_38 hp => ?_) (fun _ _ h => h.elim)
        obtain ⟨rfl, A2, rfl, g1, g2, g3⟩ := hp
        refine z_weq (w' := [zH, zG _ _ _ _]) rfl ?_
        refine z_seq (S' := []) rfl ?_
        refine z_iconstB F true dX6_off_41 rfl ?_
        exact z_zret F E rfl rfl dX6_off_42 (by omega) (by omega) (⟨by rw [c_25], F1, A2, rfl, f0, f1, (f2.tr (frm_fA (l := [6]) frm.rf (by decide)) (l2 := [6]) (by decide) (by decide)).tr g1 (by decide) (by decide), by rw [c_25, if_pos rfl]; exact g2, fun i hi hne => ((SltEq.of6 f2 (by decide)).tr (SltEq.of6 (frm_fA (l := [6]) frm.rf (by decide)) (by decide))).tr (g3 i hi hne)⟩)
      · refine z_iconstB F false dX6_off_28 rfl ?_
        exact z_zret F E rfl rfl dX6_off_29 (by omega) (by omega) (⟨by rw [c_25], F1, A1, rfl, f0, f1, f2.to (by decide), by rw [c_25, if_neg (by decide)]; exact hs.to (SltEq.of6 f2 (by decide)), fun i hi hne => SltEq.of6 f2 (by decide)⟩)
    · cases c_14
end C36
