/-! Flood -/
section C41
abbrev eFl (p : Nat) (sn g sm : Int32) : zE := zO 2 [zr p 0, zi sn, zi g, zi sm]
abbrev wFl (n d : Int32) (f : Nat → Int32) (sn g sm : Int32) (D : Nat → Int32) : List zE := [zH, eFl 2 sn g sm, zAi 0 24 D, eNet 4 n d, zAi 0 24 f]
theorem c_all (n : Nat) (d : Int32) (hn : n ≤ 24) : zCtr yX5_all cX5_all 1 (some .int) 0 0 0 [zr 1 0] [zH, eNet 2 (nI n) d, zH] (fun r w => r = some (zi (allB n)) ∧ w = [zH, eNet 2 (nI n) d, zH]) zNx := by
  refine z_start (by decide) [some (zr 1 0)] rfl (fun _ => Nat.le_of_ble_eq_true rfl) (fun _ => rfl) (fun X F E hno hin => ?_)
  refine z_iconst F (nI 1) dX5_all_0 rfl ?_
  refine z_aload_n F dX5_all_1 rfl ?_
  refine z_get F zC5 (f := 0) rfl (Nat.le_of_ble_eq_true rfl) q237 rfl dX5_all_2 ?_
  refine z_ishl F dX5_all_5 ?_
  refine z_iconst F (nI 1) dX5_all_6 rfl ?_
  refine z_isub F dX5_all_7 ?_
  exact z_iret F E rfl dX5_all_8 (by omega) (by omega) (⟨rfl, rfl⟩)
theorem c_run (n s : Nat) (d : Int32) (f : Nat → Int32) (st : Int32) (sn0 g0 sm0 : Int32) (D : Nat → Int32) (hn : n ≤ 24) (hs : s < n) (hst : ∀ i, i < 32 → bt st i = true → i < n) :
    zCtr yX2_run cX2_run 8 none 1 0 0 [zr 1 0, zr 3 0, zi (nI s), zi st] (wFl (nI n) d f sn0 g0 sm0 D) (fun r w => r = none ∧ ∃ (D' : Nat → Int32), w = wFl (nI n) d f (sn n f st s 32) (nI (ecc n f st s)) (nI (crs n f st s)) D' ∧ ∀ k e, k < 32 → dst n f st s k = some e → D' k = nI e) zNx := by
  refine z_start (by decide) [some (zr 1 0), some (zr 3 0), some (zi (nI s)), some (zi st), none, none, none, none] rfl (fun _ => Nat.le_of_ble_eq_true rfl) (fun _ => rfl) (fun X F E hno hin => ?_)
  -- the neighbours of a ring
  have nbs : ∀ (e : Nat) (sn1 : Int32) (g1 sm1 : Nat) (D1 : Nat → Int32), (∀ i, i < 32 → bt (fr n f st s e) i = true → i < n) → Z X [some (zr 1 0), some (zr 3 0), some (zi (nI s)), some (zi st), some (zi (fr n f st s e)), some (zi (nI (e + 1))), some (zi (nbk f (fr n f st s e) n)), none] [] (wFl (nI n) d f sn1 (nI g1) (nI sm1) D1) 0 0 77 →
      ∀ (m : Nat) (y : Int32) (j : Nat), pc32 y < m → j ≤ n → upto (fr n f st s e) j y → Z X [some (zr 1 0), some (zr 3 0), some (zi (nI s)), some (zi st), some (zi (fr n f st s e)), some (zi (nI (e + 1))), some (zi (nbk f (fr n f st s e) j)), some (zi y)] [] (wFl (nI n) d f sn1 (nI g1) (nI sm1) D1) 0 0 45 := by
    intro e sn1 g1 sm1 D1 hin kk m
    induction m with
    | zero => intro y j hm; omega
    | succ m ih =>
      intro y j hm hj hu
      refine z_iload F dX2_run_45 rfl ?_
      refine z_if_eq F (tgt := 77) dX2_run_47 (by decide) (fun c_47 => ?_) (fun c_47 => ?_)
      · subst c_47
        have e1 := nbk_skip (f := f) hj (fun k a b => upto_end hu k a (by omega))
        refine z_loc _ ?_ kk
        exact ⟨rfl, rfl, rfl, rfl, rfl, rfl, by rw [e1], trivial⟩
      · obtain ⟨i, hi, hji, hS, hSk, hy1, hy0, hu2, hpc⟩ := upto_low hu c_47
        have hin2 := hin i hi hS
        have e1 : nbk f (fr n f st s e) j ||| f i = nbk f (fr n f st s e) (i + 1) := by
          rw [nbk, if_pos hS, nbk_skip hji (fun k a b => hSk k a b)]
        refine z_iload F dX2_run_50 rfl ?_
        refine z_aload_n F dX2_run_52 rfl ?_
        refine z_getN F zC5 (f := 2) rfl (Nat.le_of_ble_eq_true rfl) q252 rfl dX2_run_53 ?_
        refine z_iload F dX2_run_56 rfl ?_
        refine z_callS F (c_ntz y i hi hy1 hy0) 1 rfl (lw_S q807 q808 q123 q809) (by decide +kernel) ⟨Nat.le_of_ble_eq_true rfl, Nat.le_of_ble_eq_true rfl⟩ ⟨by omega, by omega⟩ [0] 5 ⟨rfl, rfl, rfl, ⟨Or.inl rfl, trivial⟩⟩ (fun h => nomatch h) (Nat.le_of_ble_eq_true rfl) ⟨⟨Or.inr trivial, Or.inr rfl, Or.inr trivial, Or.inr rfl, Or.inr trivial, trivial⟩, rfl, rfl, rfl, Nat.le_of_ble_eq_true rfl⟩ rfl rfl dX2_run_58 (fun r_58 w_58 hp => ?_) (fun _ _ h => h.elim)
        obtain ⟨rfl, rfl⟩ := hp
        refine z_weq (w' := [zH, zO _ [zr _ _, zi _, zi _, zi _], zAi 0 24 _, zO _ [zi _, zi _, zr _ _], zAi 0 24 _]) rfl ?_
        refine z_seq (S' := zi _ :: _) rfl ?_
        refine z_ialdN F rfl (Nat.le_of_ble_eq_true rfl) (by omega) rfl dX2_run_61 ?_
        refine z_ior F dX2_run_62 ?_
        refine z_ieq e1 ?_
        refine z_istore F dX2_run_63 (Nat.le_of_ble_eq_true rfl) ?_
        refine z_leq (L' := [_, _, _, _, _, _, _, _]) rfl ?_
        refine z_iload F dX2_run_65 rfl ?_
        refine z_iload F dX2_run_67 rfl ?_
        refine z_iconst F (nI 1) dX2_run_69 rfl ?_
        refine z_isub F dX2_run_70 ?_
        refine z_iand F dX2_run_71 ?_
        refine z_istore F dX2_run_72 (Nat.le_of_ble_eq_true rfl) ?_
        refine z_leq (L' := [_, _, _, _, _, _, _, _]) rfl ?_
        refine z_goto F (tgt := 45) dX2_run_74 (by decide) ?_
        exact ih _ (i + 1) (by omega) (by omega) hu2
  -- a ring's members get their distance
  have ring : ∀ (e : Nat) (D1 : Nat → Int32) (sm0 : Nat), (∀ i, i < 32 → bt (fr n f st s (e + 1)) i = true → i < n) → (∀ k i, k < 32 → bt (fr n f st s i) k = true → i ≤ e → D1 k = nI i) →
      (∀ D2 (g2 : Nat), (fr n f st s (e + 1) = nI 0 → g2 = e) → (¬ fr n f st s (e + 1) = nI 0 → g2 = e + 1) → (∀ k i, k < 32 → bt (fr n f st s i) k = true → i ≤ e + 1 → D2 k = nI i) → Z X [some (zr 1 0), some (zr 3 0), some (zi (nI s)), some (zi st), some (zi (fr n f st s (e + 1))), some (zi (nI (e + 1))), none, none] [] (wFl (nI n) d f (sn n f st s (e + 1)) (nI g2) (nI (sm0 + (e + 1) * pc32 (fr n f st s (e + 1)))) D2) 0 0 151) →
      ∀ (m : Nat) (y : Int32) (j g1 : Nat) (D2 : Nat → Int32), pc32 y < m → j ≤ n → upto (fr n f st s (e + 1)) j y → g1 = (if fb_ct (bt (fr n f st s (e + 1))) j = 0 then e else e + 1) → (∀ k i, k < 32 → bt (fr n f st s i) k = true → i ≤ e → D2 k = nI i) → (∀ k, k < j → bt (fr n f st s (e + 1)) k = true → D2 k = nI (e + 1)) →
        Z X [some (zr 1 0), some (zr 3 0), some (zi (nI s)), some (zi st), some (zi (fr n f st s (e + 1))), some (zi (nI (e + 1))), none, some (zi y)] [] (wFl (nI n) d f (sn n f st s (e + 1)) (nI g1) (nI (sm0 + (e + 1) * fb_ct (bt (fr n f st s (e + 1))) j)) D2) 0 0 105 := by
    intro e D1 sm0 hin hD1 kk m
    induction m with
    | zero => intro y j g1 D2 hm; omega
    | succ m ih =>
      intro y j g1 D2 hm hj hu hg hD2 hD3
      refine z_iload F dX2_run_105 rfl ?_
      refine z_if_eq F (tgt := 151) dX2_run_107 (by decide) (fun c_107 => ?_) (fun c_107 => ?_)
      · subst c_107
        have hz := upto_end hu
        have e1 : fb_ct (bt (fr n f st s (e + 1))) j = pc32 (fr n f st s (e + 1)) := (ct_skip (by omega) (fun k a b => hz k a b)).symm
        rw [e1] at hg ⊢
        refine z_loc _ ?_ (kk D2 g1 (fun q => ?_) (fun q => ?_) (fun k i hk hb hi => ?_))
        · exact ⟨rfl, rfl, rfl, rfl, rfl, rfl, trivial⟩
        · rw [hg, q, if_pos (by decide)]
        · rw [hg, if_neg]
          intro q2
          exact q (bt_zero.mpr (fun i hi => fb_ct_zero.mp q2 i hi))
        · by_cases q : i = e + 1
          · subst q
            refine hD3 k (Nat.lt_of_not_le fun q2 => ?_) hb
            rw [hz k q2 hk] at hb; cases hb
          · exact hD2 k i hk hb (by omega)
      · obtain ⟨i, hi, hji, hS, hSk, hy1, hy0, hu2, hpc⟩ := upto_low hu c_107
        have hin2 := hin i hi hS
        have e1 : fb_ct (bt (fr n f st s (e + 1))) (i + 1) = fb_ct (bt (fr n f st s (e + 1))) j + 1 := by
          rw [fb_ct_succ, hS, if_pos rfl, ct_skip hji (fun k a b => hSk k a b)]
        have e2 : sm0 + (e + 1) * fb_ct (bt (fr n f st s (e + 1))) j + (e + 1) = sm0 + (e + 1) * fb_ct (bt (fr n f st s (e + 1))) (i + 1) := by rw [e1, Nat.mul_add]; omega
        refine z_aload_n F dX2_run_110 rfl ?_
        refine z_get F zC2 (f := 0) rfl (Nat.le_of_ble_eq_true rfl) q159 rfl dX2_run_111 ?_
        refine z_iload F dX2_run_114 rfl ?_
        refine z_callS F (c_ntz y i hi hy1 hy0) 1 rfl (lw_S q807 q808 q123 q809) (by decide +kernel) ⟨Nat.le_of_ble_eq_true rfl, Nat.le_of_ble_eq_true rfl⟩ ⟨by omega, by omega⟩ [0] 5 ⟨rfl, rfl, rfl, ⟨Or.inl rfl, trivial⟩⟩ (fun h => nomatch h) (Nat.le_of_ble_eq_true rfl) ⟨⟨Or.inr trivial, Or.inr rfl, Or.inr trivial, Or.inr rfl, Or.inr trivial, trivial⟩, rfl, rfl, rfl, Nat.le_of_ble_eq_true rfl⟩ rfl rfl dX2_run_116 (fun r_116 w_116 hp => ?_) (fun _ _ h => h.elim)
        obtain ⟨rfl, rfl⟩ := hp
        refine z_weq (w' := [zH, zO _ [zr _ _, zi _, zi _, zi _], zAi 0 24 _, zO _ [zi _, zi _, zr _ _], zAi 0 24 _]) rfl ?_
        refine z_seq (S' := zi _ :: _) rfl ?_
        refine z_iload F dX2_run_119 rfl ?_
        refine z_iastN F rfl (Nat.le_of_ble_eq_true rfl) (by omega) dX2_run_121 ?_
        refine z_weq (w' := [_, _, _, _, _]) rfl ?_
        refine z_aload_n F dX2_run_122 rfl ?_
        refine z_iload F dX2_run_123 rfl ?_
        refine z_put F zC2 (f := 2) rfl (Nat.le_of_ble_eq_true rfl) q162 rfl (fun _ => rfl) (fun _ => rfl) (Nat.le_of_ble_eq_true rfl) dX2_run_125 ?_
        refine z_weq (w' := [_, zO _ [_, _, _, _], _, _, _]) rfl ?_
        refine z_aload_n F dX2_run_128 rfl ?_
        refine z_dup F dX2_run_129 rfl ?_
        refine z_get F zC2 (f := 3) rfl (Nat.le_of_ble_eq_true rfl) q163 rfl dX2_run_130 ?_
        refine z_iload F dX2_run_133 rfl ?_
        refine z_iaddN F dX2_run_135 ?_
        refine z_ieq (show _ = nI (sm0 + (e + 1) * fb_ct (bt (fr n f st s (e + 1))) (i + 1)) from by rw [e2]) ?_
        refine z_put F zC2 (f := 3) rfl (Nat.le_of_ble_eq_true rfl) q163 rfl (fun _ => rfl) (fun _ => rfl) (Nat.le_of_ble_eq_true rfl) dX2_run_136 ?_
        refine z_weq (w' := [_, zO _ [_, _, _, _], _, _, _]) rfl ?_
        refine z_iload F dX2_run_139 rfl ?_
        refine z_iload F dX2_run_141 rfl ?_
        refine z_iconst F (nI 1) dX2_run_143 rfl ?_
        refine z_isub F dX2_run_144 ?_
        refine z_iand F dX2_run_145 ?_
        refine z_istore F dX2_run_146 (Nat.le_of_ble_eq_true rfl) ?_
        refine z_leq (L' := [_, _, _, _, _, _, _, _]) rfl ?_
        refine z_goto F (tgt := 105) dX2_run_148 (by decide) ?_
        refine ih _ (i + 1) (e + 1) _ (by omega) (by omega) hu2 (by rw [e1, if_neg (by omega)]) (fun k i' hk hb hi' => ?_) (fun k hk hb => ?_)
        · rw [upd_at, if_neg]
          · exact hD2 k i' hk hb hi'
          · intro q; subst q
            have := fr_one hk hb hS
            omega
        · rw [upd_at]
          split
          · rfl
          · refine hD3 k (Nat.lt_of_not_le fun q2 => ?_) hb
            rw [hSk k q2 (by omega)] at hb; cases hb
  have hfin : ∀ e i, i < 32 → bt (fr n f st s e) i = true → i < n := fun e i hi hb => fr_in hi hs hst (by omega) hb
  have outer : ∀ (m e g1 : Nat) (D1 : Nat → Int32), 33 - e < m → e < 33 → (¬ fr n f st s e = nI 0 → g1 = e) → (fr n f st s e = nI 0 → e = g1 + 1 ∧ ¬ fr n f st s g1 = nI 0) → (∀ k i, k < 32 → bt (fr n f st s i) k = true → i ≤ e → D1 k = nI i) →
      Z X [some (zr 1 0), some (zr 3 0), some (zi (nI s)), some (zi st), some (zi (fr n f st s e)), some (zi (nI (e + 1))), none, none] [] (wFl (nI n) d f (sn n f st s e) (nI g1) (nI (fb_sm (fun i => i * pc32 (fr n f st s i)) (e + 1))) D1) 0 0 33 := by
    intro m
    induction m with
    | zero => intro e g1 D1 hm; omega
    | succ m ih =>
      intro e g1 D1 hm he hg1 hg2 hD
      have tail : ∀ D2 (g2 : Nat), e < 32 → (fr n f st s (e + 1) = nI 0 → g2 = e ∧ ¬ fr n f st s e = nI 0) → (¬ fr n f st s (e + 1) = nI 0 → g2 = e + 1) → (∀ k i, k < 32 → bt (fr n f st s i) k = true → i ≤ e + 1 → D2 k = nI i) → Z X [some (zr 1 0), some (zr 3 0), some (zi (nI s)), some (zi st), some (zi (fr n f st s (e + 1))), some (zi (nI (e + 1))), none, none] [] (wFl (nI n) d f (sn n f st s (e + 1)) (nI g2) (nI (fb_sm (fun i => i * pc32 (fr n f st s i)) (e + 1) + (e + 1) * pc32 (fr n f st s (e + 1)))) D2) 0 0 151 := by
        intro D2 g2 he2 a1 a2 a3
        refine z_iincN F 1 dX2_run_151 rfl rfl ?_
        refine z_leq (L' := [_, _, _, _, _, _, _, _]) rfl ?_
        refine z_goto F (tgt := 33) dX2_run_154 (by decide) ?_
        exact ih (e + 1) g2 D2 (by omega) (by omega) a2 (fun q => ⟨by rw [(a1 q).1], by rw [(a1 q).1]; exact (a1 q).2⟩) a3
      have mid : ¬ fr n f st s e = nI 0 → e < 32 → Z X [some (zr 1 0), some (zr 3 0), some (zi (nI s)), some (zi st), some (zi (fr n f st s e)), some (zi (nI (e + 1))), some (zi (nbk f (fr n f st s e) n)), none] [] (wFl (nI n) d f (sn n f st s e) (nI g1) (nI (fb_sm (fun i => i * pc32 (fr n f st s i)) (e + 1))) D1) 0 0 77 := by
        intro hne he2
        have eg := hg1 hne
        subst eg
        refine z_iload F dX2_run_77 rfl ?_
        refine z_iload_n F dX2_run_79 rfl ?_
        refine z_iand F dX2_run_80 ?_
        refine z_aload_n F dX2_run_81 rfl ?_
        refine z_get F zC2 (f := 1) rfl (Nat.le_of_ble_eq_true rfl) q161 rfl dX2_run_82 ?_
        refine z_iconst F (-1) dX2_run_85 rfl ?_
        refine z_ixor F dX2_run_86 ?_
        refine z_iand F dX2_run_87 ?_
        refine z_istore F dX2_run_88 (Nat.le_of_ble_eq_true rfl) ?_
        refine z_leq (L' := [_, _, _, _, _, _, _, _]) rfl ?_
        refine z_aload_n F dX2_run_90 rfl ?_
        refine z_dup F dX2_run_91 rfl ?_
        refine z_get F zC2 (f := 1) rfl (Nat.le_of_ble_eq_true rfl) q161 rfl dX2_run_92 ?_
        refine z_iload F dX2_run_95 rfl ?_
        refine z_ior F dX2_run_97 ?_
        refine z_put F zC2 (f := 1) rfl (Nat.le_of_ble_eq_true rfl) q161 rfl (fun _ => rfl) (fun _ => rfl) (Nat.le_of_ble_eq_true rfl) dX2_run_98 ?_
        refine z_weq (w' := [_, zO _ [_, _, _, _], _, _, _]) rfl ?_
        refine z_iload F dX2_run_101 rfl ?_
        refine z_istore F dX2_run_103 (Nat.le_of_ble_eq_true rfl) ?_
        refine z_leq (L' := [_, _, _, _, _, _, _, _]) rfl ?_
        refine z_loc [some (zr 1 0), some (zr 3 0), some (zi (nI s)), some (zi st), some (zi (fr n f st s (g1 + 1))), some (zi (nI (g1 + 1))), none, some (zi (fr n f st s (g1 + 1)))] ⟨rfl, rfl, rfl, rfl, rfl, rfl, rfl, trivial⟩ ?_
        exact ring g1 D1 _ (hfin (g1 + 1)) hD (fun D2 g2 a1 a2 a3 => tail D2 g2 he2 (fun q => ⟨a1 q, hne⟩) a2 a3) _ _ 0 g1 D1 (Nat.lt_succ_self _) (by omega) (upto_0 _) rfl hD (fun k hk => by omega)
      refine z_iload F dX2_run_33 rfl ?_
      refine z_if_eq F (tgt := 157) dX2_run_35 (by decide) (fun c_35 => ?_) (fun c_35 => ?_)
      · obtain ⟨e1, e2⟩ := hg2 c_35
        have hz : ∀ i, e ≤ i → i * pc32 (fr n f st s i) = 0 := fun i hi => by rw [fr_stop c_35 i hi, pc32_0]; rfl
        have es : fb_sm (fun i => i * pc32 (fr n f st s i)) (e + 1) = fb_sm (fun i => i * pc32 (fr n f st s i)) 32 := (sm_tail hz (by omega)).trans (sm_tail hz (by omega)).symm
        have en : sn n f st s e = sn n f st s 32 := (sn_stop c_35 32 (by omega)).symm
        have eT : ecc n f st s = g1 := ecc_of (by omega) (fun i => ⟨fun q => Nat.le_of_not_lt fun q2 => q (fr_stop c_35 i (by omega)), fun q q2 => e2 (fr_stop q2 g1 q)⟩)
        exact z_vret F E rfl dX2_run_157 (by omega) (by omega) (⟨rfl, D1, by rw [es, en, eT]; rfl, fun k i hk hk2 => by
  have hb := (dst_some hk (by omega)).mp hk2
  refine hD k i hk hb (Nat.le_of_not_lt fun q => ?_)
  rw [fr_stop c_35 i (by omega), show bt (nI 0) k = false from b_0 k] at hb
  cases hb⟩)
      · have he2 : e < 32 := fr_far32 (by omega) c_35
        refine z_iconst F (nI 0) dX2_run_38 rfl ?_
        refine z_istore F dX2_run_39 (Nat.le_of_ble_eq_true rfl) ?_
        refine z_leq (L' := [_, _, _, _, _, _, _, _]) rfl ?_
        refine z_iload F dX2_run_41 rfl ?_
        refine z_istore F dX2_run_43 (Nat.le_of_ble_eq_true rfl) ?_
        refine z_leq (L' := [_, _, _, _, _, _, _, _]) rfl ?_
        exact nbs e _ g1 _ D1 (hfin e) (mid c_35 he2) _ _ 0 (Nat.lt_succ_self _) (by omega) (upto_0 _)
  refine z_aload_n F dX2_run_0 rfl ?_
  refine z_iconst F (nI 1) dX2_run_1 rfl ?_
  refine z_iload_n F dX2_run_2 rfl ?_
  refine z_ishlB F dX2_run_3 ?_
  refine z_put F zC2 (f := 1) rfl (Nat.le_of_ble_eq_true rfl) q161 rfl (fun _ => rfl) (fun _ => rfl) (Nat.le_of_ble_eq_true rfl) dX2_run_4 ?_
  refine z_weq (w' := [_, zO _ [_, _, _, _], _, _, _]) rfl ?_
  refine z_aload_n F dX2_run_7 rfl ?_
  refine z_iconst F (nI 0) dX2_run_8 rfl ?_
  refine z_put F zC2 (f := 2) rfl (Nat.le_of_ble_eq_true rfl) q162 rfl (fun _ => rfl) (fun _ => rfl) (Nat.le_of_ble_eq_true rfl) dX2_run_9 ?_
  refine z_weq (w' := [_, zO _ [_, _, _, _], _, _, _]) rfl ?_
  refine z_aload_n F dX2_run_12 rfl ?_
  refine z_iconst F (nI 0) dX2_run_13 rfl ?_
  refine z_put F zC2 (f := 3) rfl (Nat.le_of_ble_eq_true rfl) q163 rfl (fun _ => rfl) (fun _ => rfl) (Nat.le_of_ble_eq_true rfl) dX2_run_14 ?_
  refine z_weq (w' := [_, zO _ [_, _, _, _], _, _, _]) rfl ?_
  refine z_aload_n F dX2_run_17 rfl ?_
  refine z_get F zC2 (f := 0) rfl (Nat.le_of_ble_eq_true rfl) q159 rfl dX2_run_18 ?_
  refine z_iload_n F dX2_run_21 rfl ?_
  refine z_iconst F (nI 0) dX2_run_22 rfl ?_
  refine z_iastN F rfl (Nat.le_of_ble_eq_true rfl) (by omega) dX2_run_23 ?_
  refine z_weq (w' := [_, _, _, _, _]) rfl ?_
  refine z_aload_n F dX2_run_24 rfl ?_
  refine z_get F zC2 (f := 1) rfl (Nat.le_of_ble_eq_true rfl) q161 rfl dX2_run_25 ?_
  refine z_istore F dX2_run_28 (Nat.le_of_ble_eq_true rfl) ?_
  refine z_leq (L' := [_, _, _, _, _, _, _, _]) rfl ?_
  refine z_iconst F (nI 1) dX2_run_30 rfl ?_
  refine z_istore F dX2_run_31 (Nat.le_of_ble_eq_true rfl) ?_
  refine z_leq (L' := [_, _, _, _, _, _, _, _]) rfl ?_
  have e0 : fb_sm (fun i => i * pc32 (fr n f st s i)) (0 + 1) = 0 := by rw [fb_sm_succ]; simp [fb_sm]
  have hO := outer _ 0 0 (upd D s (nI 0)) (Nat.lt_succ_self _) (by omega) (fun _ => rfl) (fun q => absurd q (fr_0_ne (by omega))) (fun k i hk hb hi => by
    obtain rfl : i = 0 := by omega
    have e1 : bt (b1 s) k = true := hb
    rw [bt_b1 (by omega)] at e1
    rw [upd_at, if_pos (by simpa using e1)])
  rw [e0] at hO
  exact hO
end C41
