/-! heavy: the reference's operation -/
section C9yd
theorem c_mmatches (F0 : Nat → Int32) (G : Nat → Int64) (A : Nat → Nat → Int32) (B : Nat → Nat → Int64) (g : Nat → Nat → Bool) (n k : Nat) (hn : n ≤ 24) (hk : k ≤ n) (hG : ∀ z t, z < n → t < 24 → bt (A 68 z) t = g z t) :
    zCtr yX6_matches cX6_matches 4 (some .int) 2 0 0 [zr 1 0, zi (nI k)] [zH, zG F0 G A B] (fun r w => r = some (zi (nI (gN g k))) ∧ ∃ A', w = [zH, zG F0 G A' B] ∧ frm [69, 70, 71] A A') zNx := by
  refine z_start (by decide) [some (zr 1 0), some (zi (nI k)), none, none] rfl (fun _ => Nat.le_of_ble_eq_true rfl) (fun _ => rfl) (fun X F E hno hin => ?_)
  have two : ∀ (m s : Nat) (A1 : Nat → Nat → Int32) (O : Nat → Option Nat), k - s < m → s ≤ k → frm [69, 70, 71] A A1 → mS g (gS g s) O → (∀ t, t < 24 → A1 69 t = dI (O t)) → Z X [some (zr 1 0), some (zi (nI k)), some (zi (nI (gN g s))), some (zi (nI s))] [] [zH, zG F0 G A1 B] 0 0 25 := by
    intro m
    induction m with
    | zero => intro s A1 O hm; omega
    | succ m ih =>
      intro s A1 O hm hs hA hM hO
      have hgk := gN_k (g := g) s
      have at30 : s < k → Z X [some (zr 1 0), some (zi (nI k)), some (zi (nI (gN g s))), some (zi (nI s))] [] [zH, zG F0 G A1 B] 0 0 30 := by
        intro hsk
        have cc := c_misM F0 G A1 B g (gS g s) O n s k hn (by omega) (fun z q => by have := gS_lt q; omega) hM (fun q => by have := gS_lt q; omega) hO (by rw [hA.at 68 rfl]; exact hG)
        refine z_aload_n F dX6_matches_30 rfl ?_
        refine z_iload_n F dX6_matches_31 rfl ?_
        refine z_iload_n F dX6_matches_32 rfl ?_
        refine z_callV F (cc) 2 rfl (lw_V q2115 q2117 qs100 q117 q2118) (by decide +kernel) ⟨Nat.le_of_ble_eq_true rfl, Nat.le_of_ble_eq_true rfl⟩ ⟨by omega, by omega⟩ [0, 1] 2 ⟨rfl, rfl, rfl, ⟨Or.inl rfl, Or.inr rfl, trivial⟩⟩ (fun h => nomatch h) (Nat.le_of_ble_eq_true rfl) ⟨⟨Or.inr trivial, Or.inl rfl, trivial⟩, rfl, rfl, rfl, Nat.le_of_ble_eq_true rfl⟩ rfl zC6 (zat_G0 rfl) rfl dX6_matches_33 (fun r_33 w_33 hp => ?_) (fun _ _ h => h.elim)
        obtain ⟨b, A2, rfl, rfl, k1, k2, k3⟩ := hp
        refine z_weq (w' := [zH, zG _ _ _ _]) rfl ?_
        refine z_seq (S' := zi _ :: _) rfl ?_
        refine z_if_eqB F (tgt := 42) dX6_matches_36 (by decide) (fun c_36 => ?_) (fun c_36 => ?_)
        · refine z_iincN F 1 dX6_matches_42 rfl rfl ?_
          refine z_leq (L' := [_, _, _, _]) rfl ?_
          refine z_goto F (tgt := 25) dX6_matches_45 (by decide) ?_
          obtain ⟨e1, e2⟩ := k2 c_36
          have hno := gN_no hM e2
          refine z_loc _ ?_ (ih (s + 1) A2 O (by omega) (by omega) (hA.tr k1 (by decide) (by decide)) hno.2 (fun t ht => by rw [e1]; exact hO t ht))
          rw [hno.1]
          exact ⟨rfl, rfl, rfl, rfl, trivial⟩
        · refine z_iincN F 1 dX6_matches_39 rfl rfl ?_
          refine z_leq (L' := [_, _, _, _]) rfl ?_
          refine z_iincN F 1 dX6_matches_42 rfl rfl ?_
          refine z_leq (L' := [_, _, _, _]) rfl ?_
          refine z_goto F (tgt := 25) dX6_matches_45 (by decide) ?_
          obtain ⟨O', e1, e2⟩ := k3 c_36
          have hyes := gN_yes e1
          refine z_loc _ ?_ (ih (s + 1) A2 O' (by omega) (by omega) (hA.tr k1 (by decide) (by decide)) hyes.2 e2)
          rw [hyes.1]
          exact ⟨rfl, rfl, rfl, rfl, trivial⟩
      refine z_iload_n F dX6_matches_25 rfl ?_
      refine z_iload_n F dX6_matches_26 rfl ?_
      refine z_icmp_geN F (by omega) (by omega) (tgt := 48) dX6_matches_27 (by decide) (fun c_27 => ?_) (fun c_27 => ?_)
      · refine z_iload_n F dX6_matches_48 rfl ?_
        exact z_iret F E rfl dX6_matches_49 (by omega) (by omega) (⟨by rw [show s = k by omega], A1, rfl, hA⟩)
      · exact at30 (by omega)
  have one : ∀ (m u : Nat) (A1 : Nat → Nat → Int32), 24 - u < m → u ≤ 24 → frm [69, 70, 71] A A1 → (∀ t, t < u → A1 69 t = -1) → Z X [some (zr 1 0), some (zi (nI k)), some (zi (nI u)), none] [] [zH, zG F0 G A1 B] 0 0 2 := by
    intro m
    induction m with
    | zero => intro u A1 hm; omega
    | succ m ih =>
      intro u A1 hm hu hA hO
      refine z_iload_n F dX6_matches_2 rfl ?_
      refine z_bipush F (nI 24) dX6_matches_3 rfl ?_
      refine z_icmp_geN F (by omega) (by omega) (tgt := 21) dX6_matches_5 (by decide) (fun c_5 => ?_) (fun c_5 => ?_)
      · refine z_iconst F (nI 0) dX6_matches_21 rfl ?_
        refine z_istore_n F dX6_matches_22 (Nat.le_of_ble_eq_true rfl) ?_
        refine z_leq (L' := [_, _, _, _]) rfl ?_
        refine z_iconst F (nI 0) dX6_matches_23 rfl ?_
        refine z_istore_n F dX6_matches_24 (Nat.le_of_ble_eq_true rfl) ?_
        refine z_leq (L' := [_, _, _, _]) rfl ?_
        exact two (k + 1) 0 A1 (fun _ => none) (by omega) (by omega) hA (mS_0 g) (fun t ht => hO t (by omega))
      · refine z_aload_n F dX6_matches_8 rfl ?_
        refine z_ma F rfl 69 rfl (Nat.le_of_ble_eq_true rfl) rfl q1549 dX6_matches_9 ?_
        refine z_iload_n F dX6_matches_12 rfl ?_
        refine z_iconst F (-1) dX6_matches_13 rfl ?_
        refine z_iastGN F rfl rfl (Nat.le_of_ble_eq_true rfl) (by omega) dX6_matches_14 ?_
        refine z_weq (w' := [_, _]) rfl ?_
        refine z_iincN F 1 dX6_matches_15 rfl rfl ?_
        refine z_leq (L' := [_, _, _, _]) rfl ?_
        refine z_goto F (tgt := 2) dX6_matches_18 (by decide) ?_
        refine ih (u + 1) _ (by omega) (by omega) (frm_zup hA (by decide)) (fun t ht => ?_)
        rw [zup2_row]
        show (if t = u then _ else A1 69 t) = _
        by_cases e : t = u
        · rw [if_pos e]
        · rw [if_neg e]; exact hO t (by omega)
  refine z_iconst F (nI 0) dX6_matches_0 rfl ?_
  refine z_istore_n F dX6_matches_1 (Nat.le_of_ble_eq_true rfl) ?_
  refine z_leq (L' := [_, _, _, _]) rfl ?_
  exact one 25 0 A (by omega) (by omega) frm.rf (fun t ht => absurd ht (by omega))
theorem c_mcouples (F0 : Nat → Int32) (G : Nat → Int64) (A : Nat → Nat → Int32) (B : Nat → Nat → Int64) (n d : Nat) (f : Nat → Int32) (a b : Nat) (h : nok n d f) (hc : conn n f (allB n)) (ha : a < n) (hb : b < n) (h4 : F0 4 = nI n) (hH : ∀ x y, x < n → y < n → A 65 (24 * x + y) = hpI n f x y) :
    zCtr yX6_couplesOf cX6_couplesOf 7 (some .int) 3 0 0 [zr 1 0, zi (nI a), zi (nI b)] [zH, zG F0 G A B] (fun r w => r = some (zi (nI (gN (hvG n f a b) n))) ∧ ∃ A', w = [zH, zG F0 G A' B] ∧ frm [68, 69, 70, 71] A A') zNx := by
  refine z_start (by decide) [some (zr 1 0), some (zi (nI a)), some (zi (nI b)), none, none, none, none] rfl (fun _ => Nat.le_of_ble_eq_true rfl) (fun _ => rfl) (fun X F E hno hin => ?_)
  have hn := h.n24
  have way : ∀ (s t : Nat) (A1 : Nat → Nat → Int32), s < n → t < n → frm [68, 69, 70, 71] A A1 → (Z X [some (zr 1 0), some (zi (nI a)), some (zi (nI b)), some (zi (nI s)), some (zi (nI t)), some (zi (bI (hvG n f a b s t))), none] [] [zH, zG F0 G A1 B] 0 0 111) →
      ∀ (m x at_ : Nat) (is_ : Bool), x < m → at_ < n → dst n f (allB n) at_ t = some x → ((is_ = true ∨ 0 < vsN n f a b t x at_) ↔ 0 < vsN n f a b t (dN n f s t) s) → Z X [some (zr 1 0), some (zi (nI a)), some (zi (nI b)), some (zi (nI s)), some (zi (nI t)), some (zi (bI is_)), some (zi (nI at_))] [] [zH, zG F0 G A1 B] 0 0 51 := by
    intro s t A1 hs ht hA kk m
    have hG : hvG n f a b s t = decide (0 < vsN n f a b t (dN n f s t) s) := by
      unfold hvG; rw [decide_eq_true ht, Bool.true_and]
    induction m with
    | zero => intro x at_ is_ hm; omega
    | succ m ih =>
      intro x at_ is_ hm hat hx hv_
      rcases x with _ | x
      ·
       have e0 : at_ = t := ((dst_PP (al_t hn hat) (al_lt hn) (by omega)).mp hx).1.1
       have eis : is_ = hvG n f a b s t := by
         rw [hG]
         cases hi : is_ with
         | true => exact (decide_eq_true (hv_.mp (Or.inl hi))).symm
         | false =>
           refine (decide_eq_false fun z => ?_).symm
           rcases hv_.mpr z with q | q
           · rw [hi] at q; cases q
           · rw [vsN] at q; omega
       refine z_iload F dX6_couplesOf_51 rfl ?_
       refine z_iload F dX6_couplesOf_53 rfl ?_
       refine z_icmp_eqN F (by omega) (by omega) (tgt := 111) dX6_couplesOf_55 (by decide) (fun c_55 => ?_) (fun c_55 => ?_)
       · rw [eis]
         refine z_loc _ ?_ kk
         exact ⟨rfl, rfl, rfl, rfl, rfl, rfl, trivial⟩
       · exact absurd c_55 (by omega)
      obtain ⟨s1, s2, s3⟩ := hv_step h hc hat ht hx
      have hab : ¬ at_ = t := fun q => by
        subst q
        rw [dst_self (al_t hn hat)] at hx; cases hx
      have g1 : A1 65 (24 * at_ + t) = nI (hv n f at_ t) := by rw [hA.at 65 rfl, hH at_ t hat ht, hpI_hv h hc hat ht hab]
      rw [vsN] at hv_
      refine z_iload F dX6_couplesOf_51 rfl ?_
      refine z_iload F dX6_couplesOf_53 rfl ?_
      refine z_icmp_eqN F (by omega) (by omega) (tgt := 111) dX6_couplesOf_55 (by decide) (fun c_55 => ?_) (fun c_55 => ?_)
      · exact absurd c_55 (by omega)
      · refine z_iload F dX6_couplesOf_58 rfl ?_
        refine z_if_neB F (tgt := 86) dX6_couplesOf_60 (by decide) (fun c_60 => ?_) (fun c_60 => ?_)
        · refine z_iconstB F true dX6_couplesOf_86 rfl ?_
          refine z_goto F (tgt := 91) dX6_couplesOf_87 (by decide) ?_
          refine z_istore F dX6_couplesOf_91 (Nat.le_of_ble_eq_true rfl) ?_
          refine z_leq (L' := [_, _, _, _, _, _, _]) rfl ?_
          refine z_aload_n F dX6_couplesOf_93 rfl ?_
          refine z_ma F rfl 65 rfl (Nat.le_of_ble_eq_true rfl) rfl q1545 dX6_couplesOf_94 ?_
          refine z_bipush F (nI 24) dX6_couplesOf_97 rfl ?_
          refine z_iload F dX6_couplesOf_99 rfl ?_
          refine z_imulN F dX6_couplesOf_101 ?_
          refine z_iload F dX6_couplesOf_102 rfl ?_
          refine z_iaddN F dX6_couplesOf_104 ?_
          refine z_ialdGN F rfl rfl (Nat.le_of_ble_eq_true rfl) (by omega) rfl dX6_couplesOf_105 ?_
          refine z_ieq (g1) ?_
          refine z_istore F dX6_couplesOf_106 (Nat.le_of_ble_eq_true rfl) ?_
          refine z_leq (L' := [_, _, _, _, _, _, _]) rfl ?_
          refine z_goto F (tgt := 51) dX6_couplesOf_108 (by decide) ?_
          exact ih x (hv n f at_ t) true (by omega) s1 s2 ⟨fun _ => hv_.mp (Or.inl c_60), fun _ => Or.inl rfl⟩
        · refine z_iload F dX6_couplesOf_63 rfl ?_
          refine z_iload_n F dX6_couplesOf_65 rfl ?_
          refine z_icmp_neN F (by omega) (by omega) (tgt := 90) dX6_couplesOf_66 (by decide) (fun c_66 => ?_) (fun c_66 => ?_)
          · refine z_iconstB F false dX6_couplesOf_90 rfl ?_
            refine z_istore F dX6_couplesOf_91 (Nat.le_of_ble_eq_true rfl) ?_
            refine z_leq (L' := [_, _, _, _, _, _, _]) rfl ?_
            refine z_aload_n F dX6_couplesOf_93 rfl ?_
            refine z_ma F rfl 65 rfl (Nat.le_of_ble_eq_true rfl) rfl q1545 dX6_couplesOf_94 ?_
            refine z_bipush F (nI 24) dX6_couplesOf_97 rfl ?_
            refine z_iload F dX6_couplesOf_99 rfl ?_
            refine z_imulN F dX6_couplesOf_101 ?_
            refine z_iload F dX6_couplesOf_102 rfl ?_
            refine z_iaddN F dX6_couplesOf_104 ?_
            refine z_ialdGN F rfl rfl (Nat.le_of_ble_eq_true rfl) (by omega) rfl dX6_couplesOf_105 ?_
            refine z_ieq (g1) ?_
            refine z_istore F dX6_couplesOf_106 (Nat.le_of_ble_eq_true rfl) ?_
            refine z_leq (L' := [_, _, _, _, _, _, _]) rfl ?_
            refine z_goto F (tgt := 51) dX6_couplesOf_108 (by decide) ?_
            exact ih x (hv n f at_ t) false (by omega) s1 s2 (by
              rw [if_neg (fun z => c_66 z.1), Nat.zero_add, c_60] at hv_
              exact hv_)
          · refine z_aload_n F dX6_couplesOf_69 rfl ?_
            refine z_ma F rfl 65 rfl (Nat.le_of_ble_eq_true rfl) rfl q1545 dX6_couplesOf_70 ?_
            refine z_bipush F (nI 24) dX6_couplesOf_73 rfl ?_
            refine z_iload F dX6_couplesOf_75 rfl ?_
            refine z_imulN F dX6_couplesOf_77 ?_
            refine z_iload F dX6_couplesOf_78 rfl ?_
            refine z_iaddN F dX6_couplesOf_80 ?_
            refine z_ialdGN F rfl rfl (Nat.le_of_ble_eq_true rfl) (by omega) rfl dX6_couplesOf_81 ?_
            refine z_ieq (g1) ?_
            refine z_iload_n F dX6_couplesOf_82 rfl ?_
            refine z_icmp_neN F (by omega) (by omega) (tgt := 90) dX6_couplesOf_83 (by decide) (fun c_83 => ?_) (fun c_83 => ?_)
            · refine z_iconstB F false dX6_couplesOf_90 rfl ?_
              refine z_istore F dX6_couplesOf_91 (Nat.le_of_ble_eq_true rfl) ?_
              refine z_leq (L' := [_, _, _, _, _, _, _]) rfl ?_
              refine z_aload_n F dX6_couplesOf_93 rfl ?_
              refine z_ma F rfl 65 rfl (Nat.le_of_ble_eq_true rfl) rfl q1545 dX6_couplesOf_94 ?_
              refine z_bipush F (nI 24) dX6_couplesOf_97 rfl ?_
              refine z_iload F dX6_couplesOf_99 rfl ?_
              refine z_imulN F dX6_couplesOf_101 ?_
              refine z_iload F dX6_couplesOf_102 rfl ?_
              refine z_iaddN F dX6_couplesOf_104 ?_
              refine z_ialdGN F rfl rfl (Nat.le_of_ble_eq_true rfl) (by omega) rfl dX6_couplesOf_105 ?_
              refine z_ieq (g1) ?_
              refine z_istore F dX6_couplesOf_106 (Nat.le_of_ble_eq_true rfl) ?_
              refine z_leq (L' := [_, _, _, _, _, _, _]) rfl ?_
              refine z_goto F (tgt := 51) dX6_couplesOf_108 (by decide) ?_
              exact ih x (hv n f at_ t) false (by omega) s1 s2 (by
                rw [if_neg (fun z => c_83 z.2), Nat.zero_add, c_60] at hv_
                exact hv_)
            · refine z_iconstB F true dX6_couplesOf_86 rfl ?_
              refine z_goto F (tgt := 91) dX6_couplesOf_87 (by decide) ?_
              refine z_istore F dX6_couplesOf_91 (Nat.le_of_ble_eq_true rfl) ?_
              refine z_leq (L' := [_, _, _, _, _, _, _]) rfl ?_
              refine z_aload_n F dX6_couplesOf_93 rfl ?_
              refine z_ma F rfl 65 rfl (Nat.le_of_ble_eq_true rfl) rfl q1545 dX6_couplesOf_94 ?_
              refine z_bipush F (nI 24) dX6_couplesOf_97 rfl ?_
              refine z_iload F dX6_couplesOf_99 rfl ?_
              refine z_imulN F dX6_couplesOf_101 ?_
              refine z_iload F dX6_couplesOf_102 rfl ?_
              refine z_iaddN F dX6_couplesOf_104 ?_
              refine z_ialdGN F rfl rfl (Nat.le_of_ble_eq_true rfl) (by omega) rfl dX6_couplesOf_105 ?_
              refine z_ieq (g1) ?_
              refine z_istore F dX6_couplesOf_106 (Nat.le_of_ble_eq_true rfl) ?_
              refine z_leq (L' := [_, _, _, _, _, _, _]) rfl ?_
              refine z_goto F (tgt := 51) dX6_couplesOf_108 (by decide) ?_
              exact ih x (hv n f at_ t) true (by omega) s1 s2 ⟨fun _ => hv_.mp (Or.inr (by rw [if_pos ⟨c_66, c_83⟩]; omega)), fun _ => Or.inl rfl⟩
  have row : ∀ (s : Nat), s < n → (∀ (A1 : Nat → Nat → Int32), frm [68, 69, 70, 71] A A1 → (∀ z t, z < s + 1 → t < 24 → bt (A1 68 z) t = hvG n f a b z t) → (∀ z, s < z → z < n → A1 68 z = nI 0) → Z X [some (zr 1 0), some (zi (nI a)), some (zi (nI b)), some (zi (nI (s + 1))), none, none, none] [] [zH, zG F0 G A1 B] 0 0 25) →
      ∀ (m t : Nat) (A1 : Nat → Nat → Int32), n - t < m → t ≤ n → frm [68, 69, 70, 71] A A1 → (∀ z t, z < s → t < 24 → bt (A1 68 z) t = hvG n f a b z t) → (∀ u, u < 24 → bt (A1 68 s) u = (decide (u < t) && hvG n f a b s u)) → (∀ z, s < z → z < n → A1 68 z = nI 0) → Z X [some (zr 1 0), some (zi (nI a)), some (zi (nI b)), some (zi (nI s)), some (zi (nI t)), none, none] [] [zH, zG F0 G A1 B] 0 0 36 := by
    intro s hs kk m
    induction m with
    | zero => intro t A1 hm; omega
    | succ m ih =>
      intro t A1 hm ht hA hS hS2 hZ
      have at111 : t < n → Z X [some (zr 1 0), some (zi (nI a)), some (zi (nI b)), some (zi (nI s)), some (zi (nI t)), some (zi (bI (hvG n f a b s t))), none] [] [zH, zG F0 G A1 B] 0 0 111 := by
        intro htn
        refine z_iload F dX6_couplesOf_111 rfl ?_
        refine z_if_eqB F (tgt := 129) dX6_couplesOf_113 (by decide) (fun c_113 => ?_) (fun c_113 => ?_)
        · refine z_iincN F 1 dX6_couplesOf_129 rfl rfl ?_
          refine z_leq (L' := [_, _, _, _, _, _, _]) rfl ?_
          refine z_goto F (tgt := 36) dX6_couplesOf_132 (by decide) ?_
          refine z_loc _ ?_ (ih (t + 1) A1 (by omega) (by omega) hA hS (fun u hu => ?_) hZ)
          · exact ⟨rfl, rfl, rfl, rfl, rfl, trivial⟩
          rw [hS2 u hu]
          by_cases e : u = t
          · rw [e, c_113, Bool.and_false, Bool.and_false]
          · congr 1
            by_cases e2 : u < t
            · rw [decide_eq_true e2, decide_eq_true (by omega)]
            · rw [decide_eq_false e2, decide_eq_false (by omega)]
        · refine z_aload_n F dX6_couplesOf_116 rfl ?_
          refine z_ma F rfl 68 rfl (Nat.le_of_ble_eq_true rfl) rfl q1548 dX6_couplesOf_117 ?_
          refine z_iload_n F dX6_couplesOf_120 rfl ?_
          refine z_dup2 F dX6_couplesOf_121 rfl rfl ?_
          refine z_ialdGN F rfl rfl (Nat.le_of_ble_eq_true rfl) (by omega) rfl dX6_couplesOf_122 ?_
          refine z_iconst F (nI 1) dX6_couplesOf_123 rfl ?_
          refine z_iload F dX6_couplesOf_124 rfl ?_
          refine z_ishlB F dX6_couplesOf_126 ?_
          refine z_ior F dX6_couplesOf_127 ?_
          refine z_iastGN F rfl rfl (Nat.le_of_ble_eq_true rfl) (by omega) dX6_couplesOf_128 ?_
          refine z_weq (w' := [_, _]) rfl ?_
          refine z_iincN F 1 dX6_couplesOf_129 rfl rfl ?_
          refine z_leq (L' := [_, _, _, _, _, _, _]) rfl ?_
          refine z_goto F (tgt := 36) dX6_couplesOf_132 (by decide) ?_
          refine z_loc _ ?_ (ih (t + 1) _ (by omega) (by omega) (frm_zup hA (by decide)) (fun z u hz hu => ?_) (fun u hu => ?_) (fun z hz hzn => ?_))
          · exact ⟨rfl, rfl, rfl, rfl, rfl, trivial⟩
          · rw [zup2_row]
            show bt (if z = s then _ else A1 68 z) u = _
            rw [if_neg (by omega)]; exact hS z u hz hu
          · rw [zup2_row]
            show bt (if s = s then _ else A1 68 s) u = _
            rw [if_pos rfl, bt_or1 _ (by omega), hS2 u hu]
            by_cases e : u = t
            · rw [e, c_113, decide_eq_true rfl, Bool.or_true, decide_eq_true (by omega)]; rfl
            · rw [decide_eq_false e, Bool.or_false]
              congr 1
              by_cases e2 : u < t
              · rw [decide_eq_true e2, decide_eq_true (by omega)]
              · rw [decide_eq_false e2, decide_eq_false (by omega)]
          · rw [zup2_row]
            show (if z = s then _ else A1 68 z) = _
            rw [if_neg (by omega)]; exact hZ z hz hzn
      refine z_iload F dX6_couplesOf_36 rfl ?_
      refine z_aload_n F dX6_couplesOf_38 rfl ?_
      refine z_mi F rfl 4 rfl (Nat.le_of_ble_eq_true rfl) rfl q1484 dX6_couplesOf_39 ?_
      refine z_ieq (h4) ?_
      refine z_icmp_geN F (by omega) (by omega) (tgt := 135) dX6_couplesOf_42 (by decide) (fun c_42 => ?_) (fun c_42 => ?_)
      · refine z_iincN F 1 dX6_couplesOf_135 rfl rfl ?_
        refine z_leq (L' := [_, _, _, _, _, _, _]) rfl ?_
        refine z_goto F (tgt := 25) dX6_couplesOf_138 (by decide) ?_
        refine z_loc _ ?_ (kk A1 hA (fun z u hz hu => ?_) hZ)
        · exact ⟨rfl, rfl, rfl, rfl, trivial⟩
        by_cases e : z = s
        · rw [e, hS2 u hu]
          cases hg : hvG n f a b s u with
          | false => rw [Bool.and_false]
          | true => rw [decide_eq_true (show u < t by have := hvG_lt hg; omega)]; rfl
        · exact hS z u (by omega) hu
      · refine z_iconstB F false dX6_couplesOf_45 rfl ?_
        refine z_istore F dX6_couplesOf_46 (Nat.le_of_ble_eq_true rfl) ?_
        refine z_leq (L' := [_, _, _, _, _, _, _]) rfl ?_
        refine z_iload_n F dX6_couplesOf_48 rfl ?_
        refine z_istore F dX6_couplesOf_49 (Nat.le_of_ble_eq_true rfl) ?_
        refine z_leq (L' := [_, _, _, _, _, _, _]) rfl ?_
        refine way s t A1 hs (by omega) hA (at111 (by omega)) (dN n f s t + 1) _ s false (by omega) hs (dN_eq hn hc hs (by omega)) ⟨fun q => ?_, fun q => Or.inr q⟩
        rcases q with q | q
        · cases q
        · exact q
  have rows : ∀ (m s : Nat) (A1 : Nat → Nat → Int32), n - s < m → s ≤ n → frm [68, 69, 70, 71] A A1 → (∀ z t, z < s → t < 24 → bt (A1 68 z) t = hvG n f a b z t) → (∀ z, s ≤ z → z < n → A1 68 z = nI 0) → Z X [some (zr 1 0), some (zi (nI a)), some (zi (nI b)), some (zi (nI s)), none, none, none] [] [zH, zG F0 G A1 B] 0 0 25 := by
    intro m
    induction m with
    | zero => intro s A1 hm; omega
    | succ m ih =>
      intro s A1 hm hs hA hS hZ
      have z0 := fun q => hZ s (Nat.le_refl _) q
      refine z_iload_n F dX6_couplesOf_25 rfl ?_
      refine z_aload_n F dX6_couplesOf_26 rfl ?_
      refine z_mi F rfl 4 rfl (Nat.le_of_ble_eq_true rfl) rfl q1484 dX6_couplesOf_27 ?_
      refine z_ieq (h4) ?_
      refine z_icmp_geN F (by omega) (by omega) (tgt := 141) dX6_couplesOf_30 (by decide) (fun c_30 => ?_) (fun c_30 => ?_)
      · refine z_aload_n F dX6_couplesOf_141 rfl ?_
        refine z_aload_n F dX6_couplesOf_142 rfl ?_
        refine z_mi F rfl 4 rfl (Nat.le_of_ble_eq_true rfl) rfl q1484 dX6_couplesOf_143 ?_
        refine z_ieq (h4) ?_
        refine z_callV F (c_mmatches F0 G A1 B (hvG n f a b) n n hn (Nat.le_refl _) (fun z t hz ht => hS z t (by omega) ht)) 1 rfl (lw_V q2111 q2113 qs99 q117 q2114) (by decide +kernel) ⟨Nat.le_of_ble_eq_true rfl, Nat.le_of_ble_eq_true rfl⟩ ⟨by omega, by omega⟩ [0, 1] 2 ⟨rfl, rfl, rfl, ⟨Or.inl rfl, Or.inr rfl, trivial⟩⟩ (fun h => nomatch h) (Nat.le_of_ble_eq_true rfl) ⟨⟨Or.inr trivial, Or.inl rfl, trivial⟩, rfl, rfl, rfl, Nat.le_of_ble_eq_true rfl⟩ rfl zC6 (zat_G0 rfl) rfl dX6_couplesOf_146 (fun r_146 w_146 hp => ?_) (fun _ _ h => h.elim)
        obtain ⟨rfl, A2, rfl, k1⟩ := hp
        refine z_weq (w' := [zH, zG _ _ _ _]) rfl ?_
        refine z_seq (S' := zi _ :: _) rfl ?_
        exact z_iret F E rfl dX6_couplesOf_149 (by omega) (by omega) (⟨rfl, A2, rfl, hA.tr k1 (by decide) (by decide)⟩)
      · refine z_iconst F (nI 0) dX6_couplesOf_33 rfl ?_
        refine z_istore F dX6_couplesOf_34 (Nat.le_of_ble_eq_true rfl) ?_
        refine z_leq (L' := [_, _, _, _, _, _, _]) rfl ?_
        refine row s (by omega) (fun A2 q1 q2 q3 => ih (s + 1) A2 (by omega) (by omega) q1 q2 (fun z hz hzn => q3 z (by omega) hzn)) (n + 1) 0 A1 (by omega) (by omega) hA hS (fun u hu => ?_) (fun z hz hzn => hZ z (by omega) hzn)
        rw [z0 (by omega), show bt (nI 0) u = false from b_0 u, decide_eq_false (by omega)]; rfl
  have init : ∀ (m s : Nat) (A1 : Nat → Nat → Int32), n - s < m → s ≤ n → frm [68, 69, 70, 71] A A1 → (∀ z, z < s → A1 68 z = nI 0) → Z X [some (zr 1 0), some (zi (nI a)), some (zi (nI b)), some (zi (nI s)), none, none, none] [] [zH, zG F0 G A1 B] 0 0 2 := by
    intro m
    induction m with
    | zero => intro s A1 hm; omega
    | succ m ih =>
      intro s A1 hm hs hA hZ
      refine z_iload_n F dX6_couplesOf_2 rfl ?_
      refine z_aload_n F dX6_couplesOf_3 rfl ?_
      refine z_mi F rfl 4 rfl (Nat.le_of_ble_eq_true rfl) rfl q1484 dX6_couplesOf_4 ?_
      refine z_ieq (h4) ?_
      refine z_icmp_geN F (by omega) (by omega) (tgt := 23) dX6_couplesOf_7 (by decide) (fun c_7 => ?_) (fun c_7 => ?_)
      · refine z_iconst F (nI 0) dX6_couplesOf_23 rfl ?_
        refine z_istore_n F dX6_couplesOf_24 (Nat.le_of_ble_eq_true rfl) ?_
        refine z_leq (L' := [_, _, _, _, _, _, _]) rfl ?_
        exact rows (n + 1) 0 A1 (by omega) (by omega) hA (fun z t hz => absurd hz (by omega)) (fun z _ hz => hZ z (by omega))
      · refine z_aload_n F dX6_couplesOf_10 rfl ?_
        refine z_ma F rfl 68 rfl (Nat.le_of_ble_eq_true rfl) rfl q1548 dX6_couplesOf_11 ?_
        refine z_iload_n F dX6_couplesOf_14 rfl ?_
        refine z_iconst F (nI 0) dX6_couplesOf_15 rfl ?_
        refine z_iastGN F rfl rfl (Nat.le_of_ble_eq_true rfl) (by omega) dX6_couplesOf_16 ?_
        refine z_weq (w' := [_, _]) rfl ?_
        refine z_iincN F 1 dX6_couplesOf_17 rfl rfl ?_
        refine z_leq (L' := [_, _, _, _, _, _, _]) rfl ?_
        refine z_goto F (tgt := 2) dX6_couplesOf_20 (by decide) ?_
        refine ih (s + 1) _ (by omega) (by omega) (frm_zup hA (by decide)) (fun z hz => ?_)
        rw [zup2_row]
        show (if z = s then _ else A1 68 z) = _
        by_cases e : z = s
        · rw [if_pos e]
        · rw [if_neg e]; exact hZ z (by omega)
  refine z_iconst F (nI 0) dX6_couplesOf_0 rfl ?_
  refine z_istore_n F dX6_couplesOf_1 (Nat.le_of_ble_eq_true rfl) ?_
  refine z_leq (L' := [_, _, _, _, _, _, _]) rfl ?_
  exact init (n + 1) 0 A (by omega) (by omega) frm.rf (fun z hz => absurd hz (by omega))
end C9yd
