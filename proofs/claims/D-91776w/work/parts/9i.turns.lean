/-! the next row: the reference -/
section C9i
theorem nI_m2 {n : Nat} (h : 1 ≤ n) : nI n - nI 2 = nI (n - 1) - nI 1 := by
  obtain ⟨m, rfl⟩ : ∃ m, n = m + 1 := ⟨n - 1, by omega⟩
  rw [show nI 2 = nI 1 + nI 1 from by decide, ← nI_add, Int32.sub_eq_add_neg, Int32.neg_add, Int32.sub_eq_add_neg]
  rw [show m + 1 - 1 = m by omega, Int32.add_assoc]
  rw [show nI 1 + (-nI 1 + -nI 1) = -nI 1 from by decide, Int32.sub_eq_add_neg]
abbrev sw2 (p : Nat → Nat) (i j : Nat) : Nat → Nat := fun k => if k = j then p i else if k = i then p j else p k
def rvI (n i x : Nat) (p : Nat → Nat) : Nat → Nat := fun k => if i < k ∧ (k < x ∨ n + i - k < x) then p (n + i - k) else p k
theorem sw_put {A : Nat → Nat → Int32} {K n i j : Nat} {p : Nat → Nat} (h : ∀ k, k < n → A K k = nI (p k)) (hi : i < n) (hj : j < n) : ∀ k, k < n → zup2 (zup2 A K i (A K j)) K j (A K i) K k = nI (sw2 p i j k) := fun k hk => by
  rw [zup2_row]
  show (if k = j then A K i else zup2 A K i (A K j) K k) = _
  rw [zup2_row]
  show (if k = j then A K i else if k = i then A K j else A K k) = nI (if k = j then p i else if k = i then p j else p k)
  by_cases e : k = j
  · rw [if_pos e, if_pos e]; exact h i hi
  · rw [if_neg e, if_neg e]
    by_cases e2 : k = i
    · rw [if_pos e2, if_pos e2]; exact h j hj
    · rw [if_neg e2, if_neg e2]; exact h k hk
theorem rv_0 {n i : Nat} {p : Nat → Nat} {k : Nat} (hk : k < n) : rvI n i (i + 1) p k = p k := by
  unfold rvI
  by_cases e : i < k ∧ (k < i + 1 ∨ n + i - k < i + 1)
  · omega
  · rw [if_neg e]
theorem rv_step {n i x k : Nat} {p : Nat → Nat} (hx : i < x) (hxy : x < n + i - x) (hk : k < n) : sw2 (rvI n i x p) x (n + i - x) k = rvI n i (x + 1) p k := by
  show (if k = n + i - x then rvI n i x p x else if k = x then rvI n i x p (n + i - x) else rvI n i x p k) = _
  unfold rvI
  by_cases a : k = n + i - x
  · rw [if_pos a, if_neg (by omega), if_pos (by omega), show n + i - k = x by omega]
  · rw [if_neg a]
    by_cases b : k = x
    · rw [if_pos b, if_neg (by omega), if_pos (by omega), b]
    · rw [if_neg b]
      by_cases c : i < k ∧ (k < x ∨ n + i - k < x)
      · rw [if_pos c, if_pos (by omega)]
      · rw [if_neg c, if_neg (by omega)]
theorem rv_end {n i j x k : Nat} {p : Nat → Nat} (hi : i < j) (hj : j < n) (hx : i < x) (hxy : n + i - x ≤ x) (hxn : x ≤ n) (hk : k < n) : rvI n i x (sw2 p i j) k = nxR n i j p k := by
  unfold nxR rvI
  by_cases a : k < i
  · rw [if_pos a, if_neg (by omega)]
    show (if k = j then _ else if k = i then _ else p k) = _
    rw [if_neg (by omega), if_neg (by omega)]
  · rw [if_neg a]
    by_cases b : k = i
    · rw [if_pos b, if_neg (by omega)]
      show (if k = j then _ else if k = i then _ else p k) = _
      rw [if_neg (by omega), if_pos b]
    · rw [if_neg b]
      have e : (if i < k ∧ (k < x ∨ n + i - k < x) then sw2 p i j (n + i - k) else sw2 p i j k) = sw2 p i j (n + i - k) := by
        by_cases c : i < k ∧ (k < x ∨ n + i - k < x)
        · rw [if_pos c]
        · rw [if_neg c, show n + i - k = k by omega]
      rw [e]
      show (if n + i - k = j then _ else if n + i - k = i then _ else p (n + i - k)) = _
      by_cases c : n + i - k = j
      · rw [if_pos c, if_pos c]
      · rw [if_neg c, if_neg c, if_neg (by omega)]
theorem c_mswaps (F0 : Nat → Int32) (G : Nat → Int64) (A : Nat → Nat → Int32) (B : Nat → Nat → Int64) (i j : Nat) (hi : i < 6) (hj : j < 6) : zCtr yX6_swaps cX6_swaps 4 none 0 0 0 [zr 1 0, zi (nI i), zi (nI j)] [zH, zG F0 G A B] (fun r w => r = none ∧ w = [zH, zG F0 G (zup2 (zup2 A 53 i (A 53 j)) 53 j (A 53 i)) B]) zNx := by
  refine z_start (by decide) [some (zr 1 0), some (zi (nI i)), some (zi (nI j)), none] rfl (fun _ => Nat.le_of_ble_eq_true rfl) (fun _ => rfl) (fun X F E hno hin => ?_)
  refine z_aload_n F dX6_swaps_0 rfl ?_
  refine z_ma F rfl 53 rfl (Nat.le_of_ble_eq_true rfl) rfl q1533 dX6_swaps_1 ?_
  refine z_iload_n F dX6_swaps_4 rfl ?_
  refine z_ialdGN F rfl rfl (Nat.le_of_ble_eq_true rfl) (by omega) rfl dX6_swaps_5 ?_
  refine z_istore_n F dX6_swaps_6 (Nat.le_of_ble_eq_true rfl) ?_
  refine z_leq (L' := [_, _, _, _]) rfl ?_
  refine z_aload_n F dX6_swaps_7 rfl ?_
  refine z_ma F rfl 53 rfl (Nat.le_of_ble_eq_true rfl) rfl q1533 dX6_swaps_8 ?_
  refine z_iload_n F dX6_swaps_11 rfl ?_
  refine z_aload_n F dX6_swaps_12 rfl ?_
  refine z_ma F rfl 53 rfl (Nat.le_of_ble_eq_true rfl) rfl q1533 dX6_swaps_13 ?_
  refine z_iload_n F dX6_swaps_16 rfl ?_
  refine z_ialdGN F rfl rfl (Nat.le_of_ble_eq_true rfl) (by omega) rfl dX6_swaps_17 ?_
  refine z_iastGN F rfl rfl (Nat.le_of_ble_eq_true rfl) (by omega) dX6_swaps_18 ?_
  refine z_weq (w' := [_, _]) rfl ?_
  refine z_aload_n F dX6_swaps_19 rfl ?_
  refine z_ma F rfl 53 rfl (Nat.le_of_ble_eq_true rfl) rfl q1533 dX6_swaps_20 ?_
  refine z_iload_n F dX6_swaps_23 rfl ?_
  refine z_iload_n F dX6_swaps_24 rfl ?_
  refine z_iastGN F rfl rfl (Nat.le_of_ble_eq_true rfl) (by omega) dX6_swaps_25 ?_
  refine z_weq (w' := [_, _]) rfl ?_
  exact z_vret F E rfl dX6_swaps_26 (by omega) (by omega) (⟨rfl, rfl⟩)
theorem c_mturns (F0 : Nat → Int32) (G : Nat → Int64) (A : Nat → Nat → Int32) (B : Nat → Nat → Int64) (n : Nat) (p : Nat → Nat) (h1 : 1 ≤ n) (hn : n ≤ 6) (hp : isP n p) (hA : ∀ k, k < n → A 53 k = nI (p k)) : zCtr yX6_turns cX6_turns 6 (some .boolean) 1 0 0 [zr 1 0, zi (nI n)] [zH, zG F0 G A B] (fun r w => (r = some (zi (bI false)) ∧ w = [zH, zG F0 G A B] ∧ ∀ k, k + 1 < n → p (k + 1) < p k) ∨ (r = some (zi (bI true)) ∧ ∃ A' i j, w = [zH, zG F0 G A' B] ∧ frm [53] A A' ∧ nxH n i j p ∧ ∀ k, k < n → A' 53 k = nI (nxR n i j p k))) zNx := by
  refine z_start (by decide) [some (zr 1 0), some (zi (nI n)), none, none, none, none] rfl (fun _ => Nat.le_of_ble_eq_true rfl) (fun _ => rfl) (fun X F E hno hin => ?_)
  have hpb : ∀ k, k < n → p k < n := hp.1
  have rev : ∀ (i j : Nat), nxH n i j p → ∀ (m x : Nat) (A1 : Nat → Nat → Int32), n - x < m → i < x → x ≤ n → n + i - x + 1 ≥ x → frm [53] A A1 → (∀ k, k < n → A1 53 k = nI (rvI n i x (sw2 p i j) k)) → Z X [some (zr 1 0), some (zi (nI n)), some (zi (nI i)), some (zi (nI j)), some (zi (nI x)), some (zi (nI (n + i - x)))] [] [zH, zG F0 G A1 B] 0 0 78 := by
    intro i j hij m
    obtain ⟨q1, q2, -⟩ := id hij
    induction m with
    | zero => intro x A1 hm hix hxn; omega
    | succ m ih =>
      intro x A1 hm hix hxn hxy hA1 hR
      refine z_iload F dX6_turns_78 rfl ?_
      refine z_iload F dX6_turns_80 rfl ?_
      refine z_icmp_geN F (by omega) (by omega) (tgt := 102) dX6_turns_82 (by decide) (fun c_82 => ?_) (fun c_82 => ?_)
      · refine z_iconstB F true dX6_turns_102 rfl ?_
        exact z_zret F E rfl rfl dX6_turns_103 (by omega) (by omega) (Or.inr ⟨rfl, A1, i, j, rfl, hA1, hij, fun k hk => by rw [hR k hk, rv_end q1 q2 hix (by omega) hxn hk]⟩)
      · refine z_aload_n F dX6_turns_85 rfl ?_
        refine z_iload F dX6_turns_86 rfl ?_
        refine z_iload F dX6_turns_88 rfl ?_
        refine z_callV F (c_mswaps F0 _ A1 _ x (n + i - x) (by omega) (by omega)) 2 rfl (lw_V q2010 q2012 qs85 q117 q2013) (by decide +kernel) ⟨Nat.le_of_ble_eq_true rfl, Nat.le_of_ble_eq_true rfl⟩ ⟨by omega, by omega⟩ [0, 1] 2 ⟨rfl, rfl, rfl, ⟨Or.inl rfl, Or.inr rfl, trivial⟩⟩ (fun h => nomatch h) (Nat.le_of_ble_eq_true rfl) ⟨⟨Or.inr trivial, Or.inl rfl, trivial⟩, rfl, rfl, rfl, Nat.le_of_ble_eq_true rfl⟩ rfl zC6 (zat_G0 rfl) rfl dX6_turns_90 (fun r_90 w_90 hp => ?_) (fun _ _ h => h.elim)
        obtain ⟨rfl, rfl⟩ := hp
        refine z_weq (w' := [zH, zG _ _ _ _]) rfl ?_
        refine z_seq (S' := []) rfl ?_
        refine z_iincN F 1 dX6_turns_93 rfl rfl ?_
        refine z_leq (L' := [_, _, _, _, _, _]) rfl ?_
        refine z_idecN F (by omega) dX6_turns_96 rfl rfl ?_
        refine z_leq (L' := [_, _, _, _, _, _]) rfl ?_
        refine z_goto F (tgt := 78) dX6_turns_99 (by decide) ?_
        refine z_loc _ ?_ (ih (x + 1) _ (by omega) (by omega) (by omega) (by omega) (frm_zup (frm_zup hA1 (by decide)) (by decide)) (fun k hk => by rw [sw_put hR (show x < n by omega) (show n + i - x < n by omega) k hk, rv_step hix (by omega) hk]))
        rw [show n + i - (x + 1) = n + i - x - 1 by omega]
        exact ⟨rfl, rfl, rfl, rfl, rfl, rfl, trivial⟩
  have fj : ∀ (i : Nat), i + 1 < n → p i < p (i + 1) → (∀ k, i < k → k + 1 < n → p (k + 1) < p k) → ∀ (m j : Nat), j < m → i < j → j < n → (∀ k, j < k → k < n → p k < p i) → Z X [some (zr 1 0), some (zi (nI n)), some (zi (nI i)), some (zi (nI j)), none, none] [] [zH, zG F0 G A B] 0 0 41 := by
    intro i hi hlt hds m
    induction m with
    | zero => intro j hm; omega
    | succ m ih =>
      intro j hm hij hjn hgt
      have b1 := hpb i (by omega)
      have b2 := hpb j hjn
      have hne : p i ≠ p j := fun z => by have := hp.2 i j (by omega) hjn z; omega
      refine z_aload_n F dX6_turns_41 rfl ?_
      refine z_ma F rfl 53 rfl (Nat.le_of_ble_eq_true rfl) rfl q1533 dX6_turns_42 ?_
      refine z_iload_n F dX6_turns_45 rfl ?_
      refine z_ialdGN F rfl rfl (Nat.le_of_ble_eq_true rfl) (by omega) rfl dX6_turns_46 ?_
      refine z_ieq (hA j hjn) ?_
      refine z_aload_n F dX6_turns_47 rfl ?_
      refine z_ma F rfl 53 rfl (Nat.le_of_ble_eq_true rfl) rfl q1533 dX6_turns_48 ?_
      refine z_iload_n F dX6_turns_51 rfl ?_
      refine z_ialdGN F rfl rfl (Nat.le_of_ble_eq_true rfl) (by omega) rfl dX6_turns_52 ?_
      refine z_ieq (hA i (by omega)) ?_
      refine z_icmp_geN F (by omega) (by omega) (tgt := 62) dX6_turns_53 (by decide) (fun c_53 => ?_) (fun c_53 => ?_)
      · refine z_aload_n F dX6_turns_62 rfl ?_
        refine z_iload_n F dX6_turns_63 rfl ?_
        refine z_iload_n F dX6_turns_64 rfl ?_
        refine z_callV F (c_mswaps F0 _ A _ i j (by omega) (by omega)) 2 rfl (lw_V q2010 q2012 qs85 q117 q2013) (by decide +kernel) ⟨Nat.le_of_ble_eq_true rfl, Nat.le_of_ble_eq_true rfl⟩ ⟨by omega, by omega⟩ [0, 1] 2 ⟨rfl, rfl, rfl, ⟨Or.inl rfl, Or.inr rfl, trivial⟩⟩ (fun h => nomatch h) (Nat.le_of_ble_eq_true rfl) ⟨⟨Or.inr trivial, Or.inl rfl, trivial⟩, rfl, rfl, rfl, Nat.le_of_ble_eq_true rfl⟩ rfl zC6 (zat_G0 rfl) rfl dX6_turns_65 (fun r_65 w_65 hp => ?_) (fun _ _ h => h.elim)
        obtain ⟨rfl, rfl⟩ := hp
        refine z_weq (w' := [zH, zG _ _ _ _]) rfl ?_
        refine z_seq (S' := []) rfl ?_
        refine z_iload_n F dX6_turns_68 rfl ?_
        refine z_iconst F (nI 1) dX6_turns_69 rfl ?_
        refine z_iaddN F dX6_turns_70 ?_
        refine z_istore F dX6_turns_71 (Nat.le_of_ble_eq_true rfl) ?_
        refine z_leq (L' := [_, _, _, _, _, _]) rfl ?_
        refine z_iload_n F dX6_turns_73 rfl ?_
        refine z_iconst F (nI 1) dX6_turns_74 rfl ?_
        refine z_isubN F (by omega) dX6_turns_75 ?_
        refine z_istore F dX6_turns_76 (Nat.le_of_ble_eq_true rfl) ?_
        refine z_leq (L' := [_, _, _, _, _, _]) rfl ?_
        refine z_loc _ ?_ (rev i j ⟨hij, hjn, hlt, hds, by omega, hgt⟩ (n + 1) (i + 1) _ (by omega) (by omega) (by omega) (by omega) (frm_zup (frm_zup frm.rf (by decide)) (by decide)) (fun k hk => by rw [sw_put hA (show i < n by omega) hjn k hk, rv_0 hk]))
        rw [show n + i - (i + 1) = n - 1 by omega]
        exact ⟨rfl, rfl, rfl, rfl, rfl, rfl, trivial⟩
      · refine z_idecN F (by omega) dX6_turns_56 rfl rfl ?_
        refine z_leq (L' := [_, _, _, _, _, _]) rfl ?_
        refine z_goto F (tgt := 41) dX6_turns_59 (by decide) ?_
        have hj1 : i + 1 ≠ j := fun z => by rw [z] at hlt; omega
        refine ih (j - 1) (by omega) (by omega) (by omega) (fun k hk hk2 => ?_)
        by_cases e : k = j
        · rw [e]; omega
        · exact hgt k (by omega) hk2
  have fi : ∀ (i1 : Nat), i1 < n → (∀ k, i1 ≤ k → k + 1 < n → p (k + 1) < p k) → Z X [some (zr 1 0), some (zi (nI n)), some (zi (nI i1 - nI 1)), none, none, none] [] [zH, zG F0 G A B] 0 0 4 := by
    intro i1
    induction i1 with
    | zero =>
      intro hi hds
      refine z_iload_n F dX6_turns_4 rfl ?_
      refine z_if_lt F (tgt := 31) dX6_turns_5 (by decide) (fun c_5 => ?_) (fun c_5 => ?_)
      · refine z_iload_n F dX6_turns_31 rfl ?_
        refine z_if_ge F (tgt := 37) dX6_turns_32 (by decide) (fun c_32 => ?_) (fun c_32 => ?_)
        · exact absurd (dn_lt (Nat.le_refl 0) (by omega)) (Int32.not_lt.mpr c_32)
        · refine z_iconstB F false dX6_turns_35 rfl ?_
          exact z_zret F E rfl rfl dX6_turns_36 (by omega) (by omega) (Or.inl ⟨rfl, rfl, fun k hk => hds k (Nat.zero_le k) hk⟩)
      · exact absurd (dn_lt (Nat.le_refl 0) (by omega)) c_5

    | succ i ih =>
      intro hi hds
      have b1 := hpb i (by omega)
      have b2 := hpb (i + 1) hi
      have hne : p i ≠ p (i + 1) := fun z => by have := hp.2 i (i + 1) (by omega) hi z; omega
      refine z_leq (L' := [some (zr 1 0), some (zi (nI n)), some (zi (nI i)), none, none, none]) (by rw [nI_dn]) ?_
      refine z_iload_n F dX6_turns_4 rfl ?_
      refine z_if_ltN F (by omega) (tgt := 31) dX6_turns_5 (by decide) (fun c_5 => ?_) (fun c_5 => ?_)
      · exact absurd c_5 (by omega)
      · refine z_aload_n F dX6_turns_8 rfl ?_
        refine z_ma F rfl 53 rfl (Nat.le_of_ble_eq_true rfl) rfl q1533 dX6_turns_9 ?_
        refine z_iload_n F dX6_turns_12 rfl ?_
        refine z_ialdGN F rfl rfl (Nat.le_of_ble_eq_true rfl) (by omega) rfl dX6_turns_13 ?_
        refine z_ieq (hA i (by omega)) ?_
        refine z_aload_n F dX6_turns_14 rfl ?_
        refine z_ma F rfl 53 rfl (Nat.le_of_ble_eq_true rfl) rfl q1533 dX6_turns_15 ?_
        refine z_iload_n F dX6_turns_18 rfl ?_
        refine z_iconst F (nI 1) dX6_turns_19 rfl ?_
        refine z_iaddN F dX6_turns_20 ?_
        refine z_ialdGN F rfl rfl (Nat.le_of_ble_eq_true rfl) (by omega) rfl dX6_turns_21 ?_
        refine z_ieq (hA (i + 1) hi) ?_
        refine z_icmp_leN F (by omega) (by omega) (tgt := 31) dX6_turns_22 (by decide) (fun c_22 => ?_) (fun c_22 => ?_)
        · refine z_iload_n F dX6_turns_31 rfl ?_
          refine z_if_geN F (by omega) (tgt := 37) dX6_turns_32 (by decide) (fun c_32 => ?_) (fun c_32 => ?_)
          · refine z_iload_n F dX6_turns_37 rfl ?_
            refine z_iconst F (nI 1) dX6_turns_38 rfl ?_
            refine z_isubN F (by omega) dX6_turns_39 ?_
            refine z_istore_n F dX6_turns_40 (Nat.le_of_ble_eq_true rfl) ?_
            refine z_leq (L' := [_, _, _, _, _, _]) rfl ?_
            exact fj i hi (by omega) (fun k hk hk2 => hds k (by omega) hk2) n (n - 1) (by omega) (by omega) (by omega) (fun k hk hk2 => absurd hk (by omega))
          · exact absurd c_32 (by omega)
        · refine z_iinc F (nI i - nI 1) dX6_turns_25 rfl (nI_dn' i) ?_
          refine z_leq (L' := [_, _, _, _, _, _]) rfl ?_
          refine z_goto F (tgt := 4) dX6_turns_28 (by decide) ?_
          exact ih (by omega) (fun k hk hk2 => by
            by_cases e : k = i
            · rw [e]; omega
            · exact hds k (by omega) hk2)
  refine z_iload_n F dX6_turns_0 rfl ?_
  refine z_iconst F (nI 2) dX6_turns_1 rfl ?_
  refine z_isub F dX6_turns_2 ?_
  refine z_seq (S' := [zi (nI (n - 1) - nI 1)]) (by rw [nI_m2 h1]) ?_
  refine z_istore_n F dX6_turns_3 (Nat.le_of_ble_eq_true rfl) ?_
  refine z_leq (L' := [_, _, _, _, _, _]) rfl ?_
  exact fi (n - 1) (by omega) (fun k hk hk2 => absurd hk2 (by omega))
theorem c_mmoves (F0 : Nat → Int32) (G : Nat → Int64) (A : Nat → Nat → Int32) (B : Nat → Nat → Int64) (i j : Nat) (hi : i < 24) (hj : j < 24) : zCtr yX6_moves cX6_moves 4 none 0 0 0 [zr 1 0, zi (nI i), zi (nI j)] [zH, zG F0 G A B] (fun r w => r = none ∧ w = [zH, zG F0 G (zup2 (zup2 A 63 i (A 63 j)) 63 j (A 63 i)) B]) zNx := by
  refine z_start (by decide) [some (zr 1 0), some (zi (nI i)), some (zi (nI j)), none] rfl (fun _ => Nat.le_of_ble_eq_true rfl) (fun _ => rfl) (fun X F E hno hin => ?_)
  refine z_aload_n F dX6_moves_0 rfl ?_
  refine z_ma F rfl 63 rfl (Nat.le_of_ble_eq_true rfl) rfl q1543 dX6_moves_1 ?_
  refine z_iload_n F dX6_moves_4 rfl ?_
  refine z_ialdGN F rfl rfl (Nat.le_of_ble_eq_true rfl) (by omega) rfl dX6_moves_5 ?_
  refine z_istore_n F dX6_moves_6 (Nat.le_of_ble_eq_true rfl) ?_
  refine z_leq (L' := [_, _, _, _]) rfl ?_
  refine z_aload_n F dX6_moves_7 rfl ?_
  refine z_ma F rfl 63 rfl (Nat.le_of_ble_eq_true rfl) rfl q1543 dX6_moves_8 ?_
  refine z_iload_n F dX6_moves_11 rfl ?_
  refine z_aload_n F dX6_moves_12 rfl ?_
  refine z_ma F rfl 63 rfl (Nat.le_of_ble_eq_true rfl) rfl q1543 dX6_moves_13 ?_
  refine z_iload_n F dX6_moves_16 rfl ?_
  refine z_ialdGN F rfl rfl (Nat.le_of_ble_eq_true rfl) (by omega) rfl dX6_moves_17 ?_
  refine z_iastGN F rfl rfl (Nat.le_of_ble_eq_true rfl) (by omega) dX6_moves_18 ?_
  refine z_weq (w' := [_, _]) rfl ?_
  refine z_aload_n F dX6_moves_19 rfl ?_
  refine z_ma F rfl 63 rfl (Nat.le_of_ble_eq_true rfl) rfl q1543 dX6_moves_20 ?_
  refine z_iload_n F dX6_moves_23 rfl ?_
  refine z_iload_n F dX6_moves_24 rfl ?_
  refine z_iastGN F rfl rfl (Nat.le_of_ble_eq_true rfl) (by omega) dX6_moves_25 ?_
  refine z_weq (w' := [_, _]) rfl ?_
  exact z_vret F E rfl dX6_moves_26 (by omega) (by omega) (⟨rfl, rfl⟩)
theorem c_mshifts (F0 : Nat → Int32) (G : Nat → Int64) (A : Nat → Nat → Int32) (B : Nat → Nat → Int64) (n : Nat) (p : Nat → Nat) (h1 : 1 ≤ n) (hn : n ≤ 24) (h4 : F0 4 = nI n) (hp : isP n p) (hA : ∀ k, k < n → A 63 k = nI (p k)) : zCtr yX6_shifts cX6_shifts 5 (some .boolean) 1 0 0 [zr 1 0] [zH, zG F0 G A B] (fun r w => (r = some (zi (bI false)) ∧ w = [zH, zG F0 G A B] ∧ ∀ k, k + 1 < n → p (k + 1) < p k) ∨ (r = some (zi (bI true)) ∧ ∃ A' i j, w = [zH, zG F0 G A' B] ∧ frm [63] A A' ∧ nxH n i j p ∧ ∀ k, k < n → A' 63 k = nI (nxR n i j p k))) zNx := by
  refine z_start (by decide) [some (zr 1 0), none, none, none, none] rfl (fun _ => Nat.le_of_ble_eq_true rfl) (fun _ => rfl) (fun X F E hno hin => ?_)
  have hpb : ∀ k, k < n → p k < n := hp.1
  have rev : ∀ (i j : Nat), nxH n i j p → ∀ (m x : Nat) (A1 : Nat → Nat → Int32), n - x < m → i < x → x ≤ n → n + i - x + 1 ≥ x → frm [63] A A1 → (∀ k, k < n → A1 63 k = nI (rvI n i x (sw2 p i j) k)) → Z X [some (zr 1 0), some (zi (nI i)), some (zi (nI j)), some (zi (nI x)), some (zi (nI (n + i - x)))] [] [zH, zG F0 G A1 B] 0 0 86 := by
    intro i j hij m
    obtain ⟨q1, q2, -⟩ := id hij
    induction m with
    | zero => intro x A1 hm hix hxn; omega
    | succ m ih =>
      intro x A1 hm hix hxn hxy hA1 hR
      refine z_iload_n F dX6_shifts_86 rfl ?_
      refine z_iload F dX6_shifts_87 rfl ?_
      refine z_icmp_geN F (by omega) (by omega) (tgt := 108) dX6_shifts_89 (by decide) (fun c_89 => ?_) (fun c_89 => ?_)
      · refine z_iconstB F true dX6_shifts_108 rfl ?_
        exact z_zret F E rfl rfl dX6_shifts_109 (by omega) (by omega) (Or.inr ⟨rfl, A1, i, j, rfl, hA1, hij, fun k hk => by rw [hR k hk, rv_end q1 q2 hix (by omega) hxn hk]⟩)
      · refine z_aload_n F dX6_shifts_92 rfl ?_
        refine z_iload_n F dX6_shifts_93 rfl ?_
        refine z_iload F dX6_shifts_94 rfl ?_
        refine z_callV F (c_mmoves F0 _ A1 _ x (n + i - x) (by omega) (by omega)) 2 rfl (lw_V q2059 q2061 qs91 q117 q2062) (by decide +kernel) ⟨Nat.le_of_ble_eq_true rfl, Nat.le_of_ble_eq_true rfl⟩ ⟨by omega, by omega⟩ [0, 1] 2 ⟨rfl, rfl, rfl, ⟨Or.inl rfl, Or.inr rfl, trivial⟩⟩ (fun h => nomatch h) (Nat.le_of_ble_eq_true rfl) ⟨⟨Or.inr trivial, Or.inl rfl, trivial⟩, rfl, rfl, rfl, Nat.le_of_ble_eq_true rfl⟩ rfl zC6 (zat_G0 rfl) rfl dX6_shifts_96 (fun r_96 w_96 hp => ?_) (fun _ _ h => h.elim)
        obtain ⟨rfl, rfl⟩ := hp
        refine z_weq (w' := [zH, zG _ _ _ _]) rfl ?_
        refine z_seq (S' := []) rfl ?_
        refine z_iincN F 1 dX6_shifts_99 rfl rfl ?_
        refine z_leq (L' := [_, _, _, _, _]) rfl ?_
        refine z_idecN F (by omega) dX6_shifts_102 rfl rfl ?_
        refine z_leq (L' := [_, _, _, _, _]) rfl ?_
        refine z_goto F (tgt := 86) dX6_shifts_105 (by decide) ?_
        refine z_loc _ ?_ (ih (x + 1) _ (by omega) (by omega) (by omega) (by omega) (frm_zup (frm_zup hA1 (by decide)) (by decide)) (fun k hk => by rw [sw_put hR (show x < n by omega) (show n + i - x < n by omega) k hk, rv_step hix (by omega) hk]))
        rw [show n + i - (x + 1) = n + i - x - 1 by omega]
        exact ⟨rfl, rfl, rfl, rfl, rfl, trivial⟩
  have fj : ∀ (i : Nat), i + 1 < n → p i < p (i + 1) → (∀ k, i < k → k + 1 < n → p (k + 1) < p k) → ∀ (m j : Nat), j < m → i < j → j < n → (∀ k, j < k → k < n → p k < p i) → Z X [some (zr 1 0), some (zi (nI i)), some (zi (nI j)), none, none] [] [zH, zG F0 G A B] 0 0 47 := by
    intro i hi hlt hds m
    induction m with
    | zero => intro j hm; omega
    | succ m ih =>
      intro j hm hij hjn hgt
      have b1 := hpb i (by omega)
      have b2 := hpb j hjn
      have hne : p i ≠ p j := fun z => by have := hp.2 i j (by omega) hjn z; omega
      refine z_aload_n F dX6_shifts_47 rfl ?_
      refine z_ma F rfl 63 rfl (Nat.le_of_ble_eq_true rfl) rfl q1543 dX6_shifts_48 ?_
      refine z_iload_n F dX6_shifts_51 rfl ?_
      refine z_ialdGN F rfl rfl (Nat.le_of_ble_eq_true rfl) (by omega) rfl dX6_shifts_52 ?_
      refine z_ieq (hA j hjn) ?_
      refine z_aload_n F dX6_shifts_53 rfl ?_
      refine z_ma F rfl 63 rfl (Nat.le_of_ble_eq_true rfl) rfl q1543 dX6_shifts_54 ?_
      refine z_iload_n F dX6_shifts_57 rfl ?_
      refine z_ialdGN F rfl rfl (Nat.le_of_ble_eq_true rfl) (by omega) rfl dX6_shifts_58 ?_
      refine z_ieq (hA i (by omega)) ?_
      refine z_icmp_geN F (by omega) (by omega) (tgt := 68) dX6_shifts_59 (by decide) (fun c_59 => ?_) (fun c_59 => ?_)
      · refine z_aload_n F dX6_shifts_68 rfl ?_
        refine z_iload_n F dX6_shifts_69 rfl ?_
        refine z_iload_n F dX6_shifts_70 rfl ?_
        refine z_callV F (c_mmoves F0 _ A _ i j (by omega) (by omega)) 2 rfl (lw_V q2059 q2061 qs91 q117 q2062) (by decide +kernel) ⟨Nat.le_of_ble_eq_true rfl, Nat.le_of_ble_eq_true rfl⟩ ⟨by omega, by omega⟩ [0, 1] 2 ⟨rfl, rfl, rfl, ⟨Or.inl rfl, Or.inr rfl, trivial⟩⟩ (fun h => nomatch h) (Nat.le_of_ble_eq_true rfl) ⟨⟨Or.inr trivial, Or.inl rfl, trivial⟩, rfl, rfl, rfl, Nat.le_of_ble_eq_true rfl⟩ rfl zC6 (zat_G0 rfl) rfl dX6_shifts_71 (fun r_71 w_71 hp => ?_) (fun _ _ h => h.elim)
        obtain ⟨rfl, rfl⟩ := hp
        refine z_weq (w' := [zH, zG _ _ _ _]) rfl ?_
        refine z_seq (S' := []) rfl ?_
        refine z_iload_n F dX6_shifts_74 rfl ?_
        refine z_iconst F (nI 1) dX6_shifts_75 rfl ?_
        refine z_iaddN F dX6_shifts_76 ?_
        refine z_istore_n F dX6_shifts_77 (Nat.le_of_ble_eq_true rfl) ?_
        refine z_leq (L' := [_, _, _, _, _]) rfl ?_
        refine z_aload_n F dX6_shifts_78 rfl ?_
        refine z_mi F rfl 4 rfl (Nat.le_of_ble_eq_true rfl) rfl q1484 dX6_shifts_79 ?_
        refine z_ieq (h4) ?_
        refine z_iconst F (nI 1) dX6_shifts_82 rfl ?_
        refine z_isubN F (by omega) dX6_shifts_83 ?_
        refine z_istore F dX6_shifts_84 (Nat.le_of_ble_eq_true rfl) ?_
        refine z_leq (L' := [_, _, _, _, _]) rfl ?_
        refine z_loc _ ?_ (rev i j ⟨hij, hjn, hlt, hds, by omega, hgt⟩ (n + 1) (i + 1) _ (by omega) (by omega) (by omega) (by omega) (frm_zup (frm_zup frm.rf (by decide)) (by decide)) (fun k hk => by rw [sw_put hA (show i < n by omega) hjn k hk, rv_0 hk]))
        rw [show n + i - (i + 1) = n - 1 by omega]
        exact ⟨rfl, rfl, rfl, rfl, rfl, trivial⟩
      · refine z_idecN F (by omega) dX6_shifts_62 rfl rfl ?_
        refine z_leq (L' := [_, _, _, _, _]) rfl ?_
        refine z_goto F (tgt := 47) dX6_shifts_65 (by decide) ?_
        have hj1 : i + 1 ≠ j := fun z => by rw [z] at hlt; omega
        refine ih (j - 1) (by omega) (by omega) (by omega) (fun k hk hk2 => ?_)
        by_cases e : k = j
        · rw [e]; omega
        · exact hgt k (by omega) hk2
  have fi : ∀ (i1 : Nat), i1 < n → (∀ k, i1 ≤ k → k + 1 < n → p (k + 1) < p k) → Z X [some (zr 1 0), some (zi (nI i1 - nI 1)), none, none, none] [] [zH, zG F0 G A B] 0 0 7 := by
    intro i1
    induction i1 with
    | zero =>
      intro hi hds
      refine z_iload_n F dX6_shifts_7 rfl ?_
      refine z_if_lt F (tgt := 34) dX6_shifts_8 (by decide) (fun c_8 => ?_) (fun c_8 => ?_)
      · refine z_iload_n F dX6_shifts_34 rfl ?_
        refine z_if_ge F (tgt := 40) dX6_shifts_35 (by decide) (fun c_35 => ?_) (fun c_35 => ?_)
        · exact absurd (dn_lt (Nat.le_refl 0) (by omega)) (Int32.not_lt.mpr c_35)
        · refine z_iconstB F false dX6_shifts_38 rfl ?_
          exact z_zret F E rfl rfl dX6_shifts_39 (by omega) (by omega) (Or.inl ⟨rfl, rfl, fun k hk => hds k (Nat.zero_le k) hk⟩)
      · exact absurd (dn_lt (Nat.le_refl 0) (by omega)) c_8

    | succ i ih =>
      intro hi hds
      have b1 := hpb i (by omega)
      have b2 := hpb (i + 1) hi
      have hne : p i ≠ p (i + 1) := fun z => by have := hp.2 i (i + 1) (by omega) hi z; omega
      refine z_leq (L' := [some (zr 1 0), some (zi (nI i)), none, none, none]) (by rw [nI_dn]) ?_
      refine z_iload_n F dX6_shifts_7 rfl ?_
      refine z_if_ltN F (by omega) (tgt := 34) dX6_shifts_8 (by decide) (fun c_8 => ?_) (fun c_8 => ?_)
      · exact absurd c_8 (by omega)
      · refine z_aload_n F dX6_shifts_11 rfl ?_
        refine z_ma F rfl 63 rfl (Nat.le_of_ble_eq_true rfl) rfl q1543 dX6_shifts_12 ?_
        refine z_iload_n F dX6_shifts_15 rfl ?_
        refine z_ialdGN F rfl rfl (Nat.le_of_ble_eq_true rfl) (by omega) rfl dX6_shifts_16 ?_
        refine z_ieq (hA i (by omega)) ?_
        refine z_aload_n F dX6_shifts_17 rfl ?_
        refine z_ma F rfl 63 rfl (Nat.le_of_ble_eq_true rfl) rfl q1543 dX6_shifts_18 ?_
        refine z_iload_n F dX6_shifts_21 rfl ?_
        refine z_iconst F (nI 1) dX6_shifts_22 rfl ?_
        refine z_iaddN F dX6_shifts_23 ?_
        refine z_ialdGN F rfl rfl (Nat.le_of_ble_eq_true rfl) (by omega) rfl dX6_shifts_24 ?_
        refine z_ieq (hA (i + 1) hi) ?_
        refine z_icmp_leN F (by omega) (by omega) (tgt := 34) dX6_shifts_25 (by decide) (fun c_25 => ?_) (fun c_25 => ?_)
        · refine z_iload_n F dX6_shifts_34 rfl ?_
          refine z_if_geN F (by omega) (tgt := 40) dX6_shifts_35 (by decide) (fun c_35 => ?_) (fun c_35 => ?_)
          · refine z_aload_n F dX6_shifts_40 rfl ?_
            refine z_mi F rfl 4 rfl (Nat.le_of_ble_eq_true rfl) rfl q1484 dX6_shifts_41 ?_
            refine z_ieq (h4) ?_
            refine z_iconst F (nI 1) dX6_shifts_44 rfl ?_
            refine z_isubN F (by omega) dX6_shifts_45 ?_
            refine z_istore_n F dX6_shifts_46 (Nat.le_of_ble_eq_true rfl) ?_
            refine z_leq (L' := [_, _, _, _, _]) rfl ?_
            exact fj i hi (by omega) (fun k hk hk2 => hds k (by omega) hk2) n (n - 1) (by omega) (by omega) (by omega) (fun k hk hk2 => absurd hk (by omega))
          · exact absurd c_35 (by omega)
        · refine z_iinc F (nI i - nI 1) dX6_shifts_28 rfl (nI_dn' i) ?_
          refine z_leq (L' := [_, _, _, _, _]) rfl ?_
          refine z_goto F (tgt := 7) dX6_shifts_31 (by decide) ?_
          exact ih (by omega) (fun k hk hk2 => by
            by_cases e : k = i
            · rw [e]; omega
            · exact hds k (by omega) hk2)
  refine z_aload_n F dX6_shifts_0 rfl ?_
  refine z_mi F rfl 4 rfl (Nat.le_of_ble_eq_true rfl) rfl q1484 dX6_shifts_1 ?_
  refine z_ieq (h4) ?_
  refine z_iconst F (nI 2) dX6_shifts_4 rfl ?_
  refine z_isub F dX6_shifts_5 ?_
  refine z_seq (S' := [zi (nI (n - 1) - nI 1)]) (by rw [nI_m2 h1]) ?_
  refine z_istore_n F dX6_shifts_6 (Nat.le_of_ble_eq_true rfl) ?_
  refine z_leq (L' := [_, _, _, _, _]) rfl ?_
  exact fi (n - 1) (by omega) (fun k hk hk2 => absurd hk2 (by omega))
end C9i
