/-! the reference: distances -/
section C34
theorem c_spreads (F0 : Nat → Int32) (G : Nat → Int64) (A : Nat → Nat → Int32) (B : Nat → Nat → Int64) (n s : Nat) (f : Nat → Int32) (st : Int32) (hn : n ≤ 24) (hs : s < n) (hst : ∀ i, i < 32 → bt st i = true → i < n) (h4 : F0 4 = nI n) (hf : ∀ k, k < n → A 6 k = f k) :
    zCtr yX6_spreads cX6_spreads 8 none 0 0 0 [zr 1 0, zi (nI s), zi st] [zH, zG F0 G A B] (fun r w => r = none ∧ ∃ A', w = [zH, zG F0 G A' B] ∧ frm [23] A A' ∧ (∀ k, k < n → A' 23 (24 * s + k) = dI (dst n f st s k)) ∧ ∀ i, (i < 24 * s ∨ 24 * s + n ≤ i) → A' 23 i = A 23 i) zNx := by
  refine z_start (by decide) [some (zr 1 0), some (zi (nI s)), some (zi st), none, none, none, none, none] rfl (fun _ => Nat.le_of_ble_eq_true rfl) (fun _ => rfl) (fun X F E hno hin => ?_)
  have inner : ∀ (d : Nat), d < 32 → ∀ (m k : Nat) (A' : Nat → Nat → Int32), n - k < m → k ≤ n → frm [23] A A' → (∀ i, i < k → A' 23 (24 * s + i) = dI (dsm n f st s i (d + 1))) → (∀ i, k ≤ i → i < n → A' 23 (24 * s + i) = dI (dsm n f st s i d)) → (∀ i, (i < 24 * s ∨ 24 * s + n ≤ i) → A' 23 i = A 23 i) →
      (∀ A2, frm [23] A A2 → (∀ i, i < n → A2 23 (24 * s + i) = dI (dsm n f st s i (d + 1))) → (∀ i, (i < 24 * s ∨ 24 * s + n ≤ i) → A2 23 i = A 23 i) → Z X [some (zr 1 0), some (zi (nI s)), some (zi st), some (zi (sn n f st s (d + 1))), some (zi (fr n f st s (d + 1))), some (zi (nI (d + 1))), none, none] [] [zH, zG F0 G A2 B] 0 0 38) →
      Z X [some (zr 1 0), some (zi (nI s)), some (zi st), some (zi (sn n f st s d)), some (zi (fr n f st s d)), some (zi (nI d)), some (zi (nbk f (fr n f st s d) k)), some (zi (nI k))] [] [zH, zG F0 G A' B] 0 0 49 := by
    intro d hd m
    induction m with
    | zero => intro k A' hm; omega
    | succ m ih =>
      intro k A' hm hk hA h1 h2 h3 kk
      refine z_iload F dX6_spreads_49 rfl ?_
      refine z_aload_n F dX6_spreads_51 rfl ?_
      refine z_mi F rfl 4 rfl (Nat.le_of_ble_eq_true rfl) rfl q1484 dX6_spreads_52 ?_
      refine z_ieq (h4) ?_
      refine z_icmp_geN F (by omega) (by omega) (tgt := 103) dX6_spreads_55 (by decide) (fun c_55 => ?_) (fun c_55 => ?_)
      · have ek : k = n := by omega
        subst ek
        refine z_iload F dX6_spreads_103 rfl ?_
        refine z_iload_n F dX6_spreads_105 rfl ?_
        refine z_iand F dX6_spreads_106 ?_
        refine z_iload_n F dX6_spreads_107 rfl ?_
        refine z_iconst F (-1) dX6_spreads_108 rfl ?_
        refine z_ixor F dX6_spreads_109 ?_
        refine z_iand F dX6_spreads_110 ?_
        refine z_istore F dX6_spreads_111 (Nat.le_of_ble_eq_true rfl) ?_
        refine z_leq (L' := [_, _, _, _, _, _, _, _]) rfl ?_
        refine z_iload_n F dX6_spreads_113 rfl ?_
        refine z_iload F dX6_spreads_114 rfl ?_
        refine z_ior F dX6_spreads_116 ?_
        refine z_istore_n F dX6_spreads_117 (Nat.le_of_ble_eq_true rfl) ?_
        refine z_leq (L' := [_, _, _, _, _, _, _, _]) rfl ?_
        refine z_iincN F 1 dX6_spreads_118 rfl rfl ?_
        refine z_leq (L' := [_, _, _, _, _, _, _, _]) rfl ?_
        refine z_goto F (tgt := 38) dX6_spreads_121 (by decide) ?_
        refine z_loc _ ?_ (kk A' hA (fun i hi => h1 i (by omega)) h3)
        exact ⟨rfl, rfl, rfl, rfl, rfl, rfl, trivial⟩
      · refine z_iload F dX6_spreads_58 rfl ?_
        refine z_iload F dX6_spreads_60 rfl ?_
        refine z_ishr F dX6_spreads_62 ?_
        refine z_iconst F (nI 1) dX6_spreads_63 rfl ?_
        refine z_iandB F (by omega) dX6_spreads_64 ?_
        refine z_if_neB F (tgt := 71) dX6_spreads_65 (by decide) (fun c_65 => ?_) (fun c_65 => ?_)
        · have ef : A' 6 k = f k := (congrFun (hA.at 6 rfl) k).trans (hf k (by omega))
          refine z_aload_n F dX6_spreads_71 rfl ?_
          refine z_ma F rfl 23 rfl (Nat.le_of_ble_eq_true rfl) rfl q1503 dX6_spreads_72 ?_
          refine z_bipush F (nI 24) dX6_spreads_75 rfl ?_
          refine z_iload_n F dX6_spreads_77 rfl ?_
          refine z_imulN F dX6_spreads_78 ?_
          refine z_iload F dX6_spreads_79 rfl ?_
          refine z_iaddN F dX6_spreads_81 ?_
          refine z_iload F dX6_spreads_82 rfl ?_
          refine z_iastGN F rfl rfl (Nat.le_of_ble_eq_true rfl) (by omega) dX6_spreads_84 ?_
          refine z_weq (w' := [_, _]) rfl ?_
          refine z_iload F dX6_spreads_85 rfl ?_
          refine z_aload_n F dX6_spreads_87 rfl ?_
          refine z_ma F rfl 6 rfl (Nat.le_of_ble_eq_true rfl) rfl q1486 dX6_spreads_88 ?_
          refine z_iload F dX6_spreads_91 rfl ?_
          refine z_ialdGN F rfl rfl (Nat.le_of_ble_eq_true rfl) (by omega) rfl dX6_spreads_93 ?_
          refine z_ieq (show _ = f k from ef) ?_
          refine z_ior F dX6_spreads_94 ?_
          refine z_ieq (show _ = nbk f (fr n f st s d) (k + 1) from by rw [nbk, if_pos c_65]) ?_
          refine z_istore F dX6_spreads_95 (Nat.le_of_ble_eq_true rfl) ?_
          refine z_leq (L' := [_, _, _, _, _, _, _, _]) rfl ?_
          refine z_iincN F 1 dX6_spreads_97 rfl rfl ?_
          refine z_leq (L' := [_, _, _, _, _, _, _, _]) rfl ?_
          refine z_goto F (tgt := 49) dX6_spreads_100 (by decide) ?_
          refine ih _ _ (by omega) (by omega) (frm_zup hA (by decide)) (fun i hi => ?_) (fun i hi hi2 => ?_) (fun i hi => ?_) kk
          · rw [zup2_at]
            by_cases q : i = k
            · subst q; rw [if_pos rfl, dsm, if_pos c_65]; rfl
            · rw [if_neg (by omega)]; exact h1 i (by omega)
          · rw [zup2_at, if_neg (by omega)]; exact h2 i (by omega) hi2
          · rw [zup2_at, if_neg (by omega)]; exact h3 i hi
        · refine z_goto F (tgt := 97) dX6_spreads_68 (by decide) ?_
          refine z_iincN F 1 dX6_spreads_97 rfl rfl ?_
          refine z_leq (L' := [_, _, _, _, _, _, _, _]) rfl ?_
          refine z_goto F (tgt := 49) dX6_spreads_100 (by decide) ?_
          have e2 : nbk f (fr n f st s d) k = nbk f (fr n f st s d) (k + 1) := by rw [nbk, if_neg (by rw [c_65]; decide)]
          rw [e2]
          refine ih _ _ (by omega) (by omega) hA (fun i hi => ?_) (fun i hi hi2 => h2 i (by omega) hi2) h3 kk
          by_cases q : i = k
          · subst q; rw [h2 i (by omega) (by omega), dsm, if_neg (by rw [c_65]; decide)]
          · exact h1 i (by omega)
  have outer : ∀ (m d : Nat) (A' : Nat → Nat → Int32), 33 - d < m → d < 33 → frm [23] A A' → (∀ i, i < n → A' 23 (24 * s + i) = dI (dsm n f st s i d)) → (∀ i, (i < 24 * s ∨ 24 * s + n ≤ i) → A' 23 i = A 23 i) → Z X [some (zr 1 0), some (zi (nI s)), some (zi st), some (zi (sn n f st s d)), some (zi (fr n f st s d)), some (zi (nI d)), none, none] [] [zH, zG F0 G A' B] 0 0 38 := by
    intro m
    induction m with
    | zero => intro d A' hm; omega
    | succ m ih =>
      intro d A' hm hd hA h1 h3
      refine z_iload F dX6_spreads_38 rfl ?_
      refine z_if_eq F (tgt := 124) dX6_spreads_40 (by decide) (fun c_40 => ?_) (fun c_40 => ?_)
      · exact z_vret F E rfl dX6_spreads_124 (by omega) (by omega) (⟨rfl, A', rfl, hA, fun k hk => (h1 k hk).trans (by rw [dsm_done c_40 (by omega) (by omega) (by omega)]), h3⟩)
      · have hd2 : d < 32 := fr_far32 (by omega) c_40
        refine z_iconst F (nI 0) dX6_spreads_43 rfl ?_
        refine z_istore F dX6_spreads_44 (Nat.le_of_ble_eq_true rfl) ?_
        refine z_leq (L' := [_, _, _, _, _, _, _, _]) rfl ?_
        refine z_iconst F (nI 0) dX6_spreads_46 rfl ?_
        refine z_istore F dX6_spreads_47 (Nat.le_of_ble_eq_true rfl) ?_
        refine z_leq (L' := [_, _, _, _, _, _, _, _]) rfl ?_
        exact inner d hd2 _ 0 A' (Nat.lt_succ_self _) (by omega) hA (fun i hi => by omega) (fun i _ hi => h1 i hi) h3 (fun A2 a1 a2 a3 => ih _ _ (by omega) (by omega) a1 a2 a3)
  have first : ∀ (m k : Nat) (A' : Nat → Nat → Int32), n - k < m → k ≤ n → frm [23] A A' → (∀ i, i < k → A' 23 (24 * s + i) = -1) → (∀ i, (i < 24 * s ∨ 24 * s + n ≤ i) → A' 23 i = A 23 i) → Z X [some (zr 1 0), some (zi (nI s)), some (zi st), some (zi (nI k)), none, none, none, none] [] [zH, zG F0 G A' B] 0 0 2 := by
    intro m
    induction m with
    | zero => intro k A' hm; omega
    | succ m ih =>
      intro k A' hm hk hA h1 h3
      refine z_iload_n F dX6_spreads_2 rfl ?_
      refine z_aload_n F dX6_spreads_3 rfl ?_
      refine z_mi F rfl 4 rfl (Nat.le_of_ble_eq_true rfl) rfl q1484 dX6_spreads_4 ?_
      refine z_ieq (h4) ?_
      refine z_icmp_geN F (by omega) (by omega) (tgt := 28) dX6_spreads_7 (by decide) (fun c_7 => ?_) (fun c_7 => ?_)
      · refine z_iconst F (nI 1) dX6_spreads_28 rfl ?_
        refine z_iload_n F dX6_spreads_29 rfl ?_
        refine z_ishlB F dX6_spreads_30 ?_
        refine z_istore_n F dX6_spreads_31 (Nat.le_of_ble_eq_true rfl) ?_
        refine z_leq (L' := [_, _, _, _, _, _, _, _]) rfl ?_
        refine z_iload_n F dX6_spreads_32 rfl ?_
        refine z_istore F dX6_spreads_33 (Nat.le_of_ble_eq_true rfl) ?_
        refine z_leq (L' := [_, _, _, _, _, _, _, _]) rfl ?_
        refine z_iconst F (nI 0) dX6_spreads_35 rfl ?_
        refine z_istore F dX6_spreads_36 (Nat.le_of_ble_eq_true rfl) ?_
        refine z_leq (L' := [_, _, _, _, _, _, _, _]) rfl ?_
        exact outer _ 0 A' (Nat.lt_succ_self _) (by omega) hA (fun i hi => h1 i (by omega)) h3
      · refine z_aload_n F dX6_spreads_10 rfl ?_
        refine z_ma F rfl 23 rfl (Nat.le_of_ble_eq_true rfl) rfl q1503 dX6_spreads_11 ?_
        refine z_bipush F (nI 24) dX6_spreads_14 rfl ?_
        refine z_iload_n F dX6_spreads_16 rfl ?_
        refine z_imulN F dX6_spreads_17 ?_
        refine z_iload_n F dX6_spreads_18 rfl ?_
        refine z_iaddN F dX6_spreads_19 ?_
        refine z_iconst F (-1) dX6_spreads_20 rfl ?_
        refine z_iastGN F rfl rfl (Nat.le_of_ble_eq_true rfl) (by omega) dX6_spreads_21 ?_
        refine z_weq (w' := [_, _]) rfl ?_
        refine z_iincN F 1 dX6_spreads_22 rfl rfl ?_
        refine z_leq (L' := [_, _, _, _, _, _, _, _]) rfl ?_
        refine z_goto F (tgt := 2) dX6_spreads_25 (by decide) ?_
        refine ih _ _ (by omega) (by omega) (frm_zup hA (by decide)) (fun i hi => ?_) (fun i hi => ?_)
        · rw [zup2_at]
          by_cases q : i = k
          · subst q; rw [if_pos rfl]
          · rw [if_neg (by omega)]; exact h1 i (by omega)
        · rw [zup2_at, if_neg (by omega)]; exact h3 i hi
  refine z_iconst F (nI 0) dX6_spreads_0 rfl ?_
  refine z_istore_n F dX6_spreads_1 (Nat.le_of_ble_eq_true rfl) ?_
  refine z_leq (L' := [_, _, _, _, _, _, _, _]) rfl ?_
  exact first _ 0 A (Nat.lt_succ_self _) (by omega) frm.rf (fun i hi => by omega) (fun i hi => rfl)
end C34
