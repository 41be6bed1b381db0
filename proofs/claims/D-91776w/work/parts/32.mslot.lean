/-! the reference: what lies in slots -/
section C32
def Lay (F0 : Nat → Int32) (A : Nat → Nat → Int32) (n : Nat) (d : Int32) (f : Nat → Int32) : Prop := F0 4 = nI n ∧ F0 5 = d ∧ ∀ k, k < 24 → A 6 k = f k
def Slt (A : Nat → Nat → Int32) (j n : Nat) (d : Int32) (f : Nat → Int32) : Prop := A 1 j = nI n ∧ A 2 j = d ∧ ∀ k, k < 24 → A 3 (24 * j + k) = f k
def SltEq (A A' : Nat → Nat → Int32) (j : Nat) : Prop := A' 1 j = A 1 j ∧ A' 2 j = A 2 j ∧ ∀ k, k < 24 → A' 3 (24 * j + k) = A 3 (24 * j + k)
theorem SltEq.tr {A A' A2 : Nat → Nat → Int32} {j : Nat} (a : SltEq A A' j) (b : SltEq A' A2 j) : SltEq A A2 j := ⟨b.1.trans a.1, b.2.1.trans a.2.1, fun k hk => (b.2.2 k hk).trans (a.2.2 k hk)⟩
theorem SltEq.of6 {l : List Nat} {A A' : Nat → Nat → Int32} {j : Nat} (a : frm l A A') (h : (1 ∉ l ∧ 2 ∉ l ∧ 3 ∉ l)) : SltEq A A' j := ⟨by rw [a 1 h.1], by rw [a 2 h.2.1], fun k _ => by rw [a 3 h.2.2]⟩
theorem Slt.to {A A' : Nat → Nat → Int32} {j n : Nat} {d : Int32} {f : Nat → Int32} (h : Slt A j n d f) (e : SltEq A A' j) : Slt A' j n d f := ⟨e.1.trans h.1, e.2.1.trans h.2.1, fun k hk => (e.2.2 k hk).trans (h.2.2 k hk)⟩
theorem c_lays_ok (F0 : Nat → Int32) (G : Nat → Int64) (A : Nat → Nat → Int32) (B : Nat → Nat → Int64) (j n : Nat) (d : Int32) (f : Nat → Int32) (hj : j < 8) (hn : 0 < n) (hn2 : n ≤ 24) (hs : Slt A j n d f) :
    zCtr yX6_lays cX6_lays 3 (some .boolean) 1 0 0 [zr 1 0, zi (nI j)] [zH, zG F0 G A B] (fun r w => r = some (zi (bI true)) ∧ ∃ F' A', w = [zH, zG F' G A' B] ∧ F' 0 = nI 0 ∧ frm [0, 4, 5] F0 F' ∧ frm [6] A A' ∧ Lay F' A' n d f) zNx := by
  refine z_start (by decide) [some (zr 1 0), some (zi (nI j)), none] rfl (fun _ => Nat.le_of_ble_eq_true rfl) (fun _ => rfl) (fun X F E hno hin => ?_)
  obtain ⟨s1, s2, s3⟩ := hs
  have loop : ∀ (m k : Nat) (F' : Nat → Int32) (A' : Nat → Nat → Int32), 24 - k < m → k ≤ 24 → F' 0 = nI 0 → F' 4 = nI n → F' 5 = d → frm [0, 4, 5] F0 F' → frm [6] A A' → (∀ i, i < k → A' 6 i = f i) → Z X [some (zr 1 0), some (zi (nI j)), some (zi (nI k))] [] [zH, zG F' G A' B] 0 0 58 := by
    intro m
    induction m with
    | zero => intro k F' A' hm; omega
    | succ m ih =>
      intro k F' A' hm hk h0 h4 h5 hF hA h6
      refine z_iload_n F dX6_lays_58 rfl ?_
      refine z_bipush F (nI 24) dX6_lays_59 rfl ?_
      refine z_icmp_geN F (by omega) (by omega) (tgt := 87) dX6_lays_61 (by decide) (fun c_61 => ?_) (fun c_61 => ?_)
      · refine z_iconstB F true dX6_lays_87 rfl ?_
        exact z_zret F E rfl rfl dX6_lays_88 (by omega) (by omega) (⟨rfl, F', A', rfl, h0, hF, hA, h4, h5, fun i hi => h6 i (by omega)⟩)
      · refine z_aload_n F dX6_lays_64 rfl ?_
        refine z_ma F rfl 6 rfl (Nat.le_of_ble_eq_true rfl) rfl q1486 dX6_lays_65 ?_
        refine z_iload_n F dX6_lays_68 rfl ?_
        refine z_aload_n F dX6_lays_69 rfl ?_
        refine z_ma F rfl 3 rfl (Nat.le_of_ble_eq_true rfl) rfl q1483 dX6_lays_70 ?_
        refine z_bipush F (nI 24) dX6_lays_73 rfl ?_
        refine z_iload_n F dX6_lays_75 rfl ?_
        refine z_imulN F dX6_lays_76 ?_
        refine z_iload_n F dX6_lays_77 rfl ?_
        refine z_iaddN F dX6_lays_78 ?_
        refine z_ialdGN F rfl rfl (Nat.le_of_ble_eq_true rfl) (by omega) rfl dX6_lays_79 ?_
        refine z_iastGN F rfl rfl (Nat.le_of_ble_eq_true rfl) (by omega) dX6_lays_80 ?_
        refine z_weq (w' := [_, _]) rfl ?_
        refine z_iincN F 1 dX6_lays_81 rfl rfl ?_
        refine z_leq (L' := [_, _, _]) rfl ?_
        refine z_goto F (tgt := 58) dX6_lays_84 (by decide) ?_
        refine ih _ _ _ (by omega) (by omega) h0 h4 h5 hF (frm_zup hA (by decide)) (fun i hi => ?_)
        rw [zup2_at]
        split
        · subst_vars; rw [hA.at 3 rfl]; exact s3 _ (by omega)
        · exact h6 i (by omega)
  refine z_aload_n F dX6_lays_0 rfl ?_
  refine z_iconst F (nI 0) dX6_lays_1 rfl ?_
  refine z_pmi F rfl 0 rfl (Nat.le_of_ble_eq_true rfl) rfl q1480 rfl rfl rfl dX6_lays_2 ?_
  refine z_weq (w' := [_, _]) rfl ?_
  refine z_aload_n F dX6_lays_5 rfl ?_
  refine z_iload_n F dX6_lays_6 rfl ?_
  refine z_callS F (c_isSlot (nI j)) 1 rfl (lw_S q1714 q1715 q117 q1716) (by decide +kernel) ⟨Nat.le_of_ble_eq_true rfl, Nat.le_of_ble_eq_true rfl⟩ ⟨by omega, by omega⟩ [0] 2 ⟨rfl, rfl, rfl, ⟨Or.inl rfl, trivial⟩⟩ (fun h => nomatch h) (Nat.le_of_ble_eq_true rfl) ⟨⟨Or.inr trivial, Or.inr trivial, trivial⟩, rfl, rfl, rfl, Nat.le_of_ble_eq_true rfl⟩ rfl rfl dX6_lays_7 (fun r_7 w_7 hp => ?_) (fun _ _ h => h.elim)
  obtain ⟨rfl, rfl⟩ := hp
  refine z_weq (w' := [zH, zG _ _ _ _]) rfl ?_
  refine z_seq (S' := zi _ :: _) rfl ?_
  refine z_if_eqB F (tgt := 26) dX6_lays_10 (by decide) (fun c_10 => ?_) (fun c_10 => ?_)
  · rw [slB_n hj] at c_10; cases c_10
  · refine z_aload_n F dX6_lays_13 rfl ?_
    refine z_ma F rfl 1 rfl (Nat.le_of_ble_eq_true rfl) rfl q1481 dX6_lays_14 ?_
    refine z_iload_n F dX6_lays_17 rfl ?_
    refine z_ialdGN F rfl rfl (Nat.le_of_ble_eq_true rfl) (by omega) rfl dX6_lays_18 ?_
    refine z_ieq (s1) ?_
    refine z_if_leN F (by omega) (tgt := 26) dX6_lays_19 (by decide) (fun c_19 => ?_) (fun c_19 => ?_)
    · exact absurd c_19 (by omega)
    · refine z_iconstB F true dX6_lays_22 rfl ?_
      refine z_goto F (tgt := 27) dX6_lays_23 (by decide) ?_
      refine z_iconst F (nI 1) dX6_lays_27 rfl ?_
      refine z_callV F (c_right _ _ _ _ true 1 (by rfl) (by omega) (by omega)) 2 rfl (lw_V q1736 q1738 qs43 q117 q1739) (by decide +kernel) ⟨Nat.le_of_ble_eq_true rfl, Nat.le_of_ble_eq_true rfl⟩ ⟨by omega, by omega⟩ [0, 1] 2 ⟨rfl, rfl, rfl, ⟨Or.inl rfl, Or.inr rfl, trivial⟩⟩ (fun h => nomatch h) (Nat.le_of_ble_eq_true rfl) ⟨⟨Or.inr trivial, Or.inl rfl, trivial⟩, rfl, rfl, rfl, Nat.le_of_ble_eq_true rfl⟩ rfl zC6 (zat_G0 rfl) rfl dX6_lays_28 (fun r_28 w_28 hp => ?_) (fun _ _ h => h.elim)
      obtain ⟨rfl, rfl⟩ := hp
      refine z_weq (w' := [zH, zG _ _ _ _]) rfl ?_
      refine z_seq (S' := zi _ :: _) rfl ?_
      refine z_if_neB F (tgt := 36) dX6_lays_31 (by decide) (fun c_31 => ?_) (fun c_31 => ?_)
      · refine z_aload_n F dX6_lays_36 rfl ?_
        refine z_aload_n F dX6_lays_37 rfl ?_
        refine z_ma F rfl 1 rfl (Nat.le_of_ble_eq_true rfl) rfl q1481 dX6_lays_38 ?_
        refine z_iload_n F dX6_lays_41 rfl ?_
        refine z_ialdGN F rfl rfl (Nat.le_of_ble_eq_true rfl) (by omega) rfl dX6_lays_42 ?_
        refine z_pmi F rfl 4 rfl (Nat.le_of_ble_eq_true rfl) rfl q1484 rfl rfl rfl dX6_lays_43 ?_
        refine z_weq (w' := [_, _]) rfl ?_
        refine z_aload_n F dX6_lays_46 rfl ?_
        refine z_aload_n F dX6_lays_47 rfl ?_
        refine z_ma F rfl 2 rfl (Nat.le_of_ble_eq_true rfl) rfl q1482 dX6_lays_48 ?_
        refine z_iload_n F dX6_lays_51 rfl ?_
        refine z_ialdGN F rfl rfl (Nat.le_of_ble_eq_true rfl) (by omega) rfl dX6_lays_52 ?_
        refine z_pmi F rfl 5 rfl (Nat.le_of_ble_eq_true rfl) rfl q1485 rfl rfl rfl dX6_lays_53 ?_
        refine z_weq (w' := [_, _]) rfl ?_
        refine z_iconst F (nI 0) dX6_lays_56 rfl ?_
        refine z_istore_n F dX6_lays_57 (Nat.le_of_ble_eq_true rfl) ?_
        refine z_leq (L' := [_, _, _]) rfl ?_
        exact loop 25 0 _ _ (by omega) (by omega) rfl s1 s2 (frm_upd (frm_upd (frm_upd frm.rf (by decide)) (by decide)) (by decide)) frm.rf (fun i hi => by omega)
      · cases c_31
theorem c_lays_no (F0 : Nat → Int32) (G : Nat → Int64) (A : Nat → Nat → Int32) (B : Nat → Nat → Int64) (s : Int32) (hs : ∀ j, j < 8 → s = nI j → A 1 j = nI 0) :
    zCtr yX6_lays cX6_lays 3 (some .boolean) 1 0 0 [zr 1 0, zi s] [zH, zG F0 G A B] (fun r w => r = some (zi (bI false)) ∧ w = [zH, zG (upd F0 0 (nI 1)) G A B]) zNx := by
  refine z_start (by decide) [some (zr 1 0), some (zi s), none] rfl (fun _ => Nat.le_of_ble_eq_true rfl) (fun _ => rfl) (fun X F E hno hin => ?_)
  have J : Z X [some (zr 1 0), some (zi s), none] [zi (bI false), zr 1 0] [zH, zG (upd F0 0 (nI 0)) G A B] 0 0 27 := by
    refine z_iconst F (nI 1) dX6_lays_27 rfl ?_
    refine z_callV F (c_right _ _ _ _ false 1 (by rfl) (by omega) (by omega)) 2 rfl (lw_V q1736 q1738 qs43 q117 q1739) (by decide +kernel) ⟨Nat.le_of_ble_eq_true rfl, Nat.le_of_ble_eq_true rfl⟩ ⟨by omega, by omega⟩ [0, 1] 2 ⟨rfl, rfl, rfl, ⟨Or.inl rfl, Or.inr rfl, trivial⟩⟩ (fun h => nomatch h) (Nat.le_of_ble_eq_true rfl) ⟨⟨Or.inr trivial, Or.inl rfl, trivial⟩, rfl, rfl, rfl, Nat.le_of_ble_eq_true rfl⟩ rfl zC6 (zat_G0 rfl) rfl dX6_lays_28 (fun r_28 w_28 hp => ?_) (fun _ _ h => h.elim)
    obtain ⟨rfl, rfl⟩ := hp
    refine z_weq (w' := [zH, zG _ _ _ _]) rfl ?_
    refine z_seq (S' := zi _ :: _) rfl ?_
    refine z_if_neB F (tgt := 36) dX6_lays_31 (by decide) (fun c_31 => ?_) (fun c_31 => ?_)
    · cases c_31
    · refine z_iconstB F false dX6_lays_34 rfl ?_
      exact z_zret F E rfl rfl dX6_lays_35 (by omega) (by omega) (⟨rfl, by rw [if_neg (by decide), upd_upd]⟩)
  refine z_aload_n F dX6_lays_0 rfl ?_
  refine z_iconst F (nI 0) dX6_lays_1 rfl ?_
  refine z_pmi F rfl 0 rfl (Nat.le_of_ble_eq_true rfl) rfl q1480 rfl rfl rfl dX6_lays_2 ?_
  refine z_weq (w' := [_, _]) rfl ?_
  refine z_aload_n F dX6_lays_5 rfl ?_
  refine z_iload_n F dX6_lays_6 rfl ?_
  refine z_callS F (c_isSlot s) 1 rfl (lw_S q1714 q1715 q117 q1716) (by decide +kernel) ⟨Nat.le_of_ble_eq_true rfl, Nat.le_of_ble_eq_true rfl⟩ ⟨by omega, by omega⟩ [0] 2 ⟨rfl, rfl, rfl, ⟨Or.inl rfl, trivial⟩⟩ (fun h => nomatch h) (Nat.le_of_ble_eq_true rfl) ⟨⟨Or.inr trivial, Or.inr trivial, trivial⟩, rfl, rfl, rfl, Nat.le_of_ble_eq_true rfl⟩ rfl rfl dX6_lays_7 (fun r_7 w_7 hp => ?_) (fun _ _ h => h.elim)
  obtain ⟨rfl, rfl⟩ := hp
  refine z_weq (w' := [zH, zG _ _ _ _]) rfl ?_
  refine z_seq (S' := zi _ :: _) rfl ?_
  refine z_if_eqB F (tgt := 26) dX6_lays_10 (by decide) (fun c_10 => ?_) (fun c_10 => ?_)
  · refine z_iconstB F false dX6_lays_26 rfl ?_
    exact J
  · obtain ⟨j, hj, rfl⟩ := slB_of c_10
    refine z_aload_n F dX6_lays_13 rfl ?_
    refine z_ma F rfl 1 rfl (Nat.le_of_ble_eq_true rfl) rfl q1481 dX6_lays_14 ?_
    refine z_iload_n F dX6_lays_17 rfl ?_
    refine z_ialdG F rfl rfl (vp_in_nI hj (by omega)) dX6_lays_18 ?_
    refine z_ieq (y := nI 0) (by rw [zcl_n (by omega)]; exact hs j hj rfl) ?_
    refine z_if_le F (tgt := 26) dX6_lays_19 (by decide) (fun c_19 => ?_) (fun c_19 => ?_)
    · refine z_iconstB F false dX6_lays_26 rfl ?_
      exact J
    · exact absurd c_19 (by decide)
theorem c_keeps (F0 : Nat → Int32) (G : Nat → Int64) (A : Nat → Nat → Int32) (B : Nat → Nat → Int64) (j n : Nat) (d : Int32) (f : Nat → Int32) (hj : j < 8) (hl : Lay F0 A n d f) :
    zCtr yX6_keeps cX6_keeps 3 none 0 0 0 [zr 1 0, zi (nI j)] [zH, zG F0 G A B] (fun r w => r = none ∧ ∃ A', w = [zH, zG F0 G A' B] ∧ frm [1, 2, 3] A A' ∧ Slt A' j n d f ∧ ∀ i, i < 8 → i ≠ j → SltEq A A' i) zNx := by
  refine z_start (by decide) [some (zr 1 0), some (zi (nI j)), none] rfl (fun _ => Nat.le_of_ble_eq_true rfl) (fun _ => rfl) (fun X F E hno hin => ?_)
  obtain ⟨l1, l2, l3⟩ := hl
  have loop : ∀ (m k : Nat) (A' : Nat → Nat → Int32), 24 - k < m → k ≤ 24 → frm [1, 2, 3] A A' → A' 1 j = nI n → A' 2 j = d → (∀ i, i < k → A' 3 (24 * j + i) = f i) → (∀ i, i < 8 → i ≠ j → SltEq A A' i) → Z X [some (zr 1 0), some (zi (nI j)), some (zi (nI k))] [] [zH, zG F0 G A' B] 0 0 22 := by
    intro m
    induction m with
    | zero => intro k A' hm; omega
    | succ m ih =>
      intro k A' hm hk hA h1 h2 h3 ho
      refine z_iload_n F dX6_keeps_22 rfl ?_
      refine z_bipush F (nI 24) dX6_keeps_23 rfl ?_
      refine z_icmp_geN F (by omega) (by omega) (tgt := 51) dX6_keeps_25 (by decide) (fun c_25 => ?_) (fun c_25 => ?_)
      · exact z_vret F E rfl dX6_keeps_51 (by omega) (by omega) (⟨rfl, A', rfl, hA, ⟨h1, h2, fun i hi => h3 i (by omega)⟩, ho⟩)
      · refine z_aload_n F dX6_keeps_28 rfl ?_
        refine z_ma F rfl 3 rfl (Nat.le_of_ble_eq_true rfl) rfl q1483 dX6_keeps_29 ?_
        refine z_bipush F (nI 24) dX6_keeps_32 rfl ?_
        refine z_iload_n F dX6_keeps_34 rfl ?_
        refine z_imulN F dX6_keeps_35 ?_
        refine z_iload_n F dX6_keeps_36 rfl ?_
        refine z_iaddN F dX6_keeps_37 ?_
        refine z_aload_n F dX6_keeps_38 rfl ?_
        refine z_ma F rfl 6 rfl (Nat.le_of_ble_eq_true rfl) rfl q1486 dX6_keeps_39 ?_
        refine z_iload_n F dX6_keeps_42 rfl ?_
        refine z_ialdGN F rfl rfl (Nat.le_of_ble_eq_true rfl) (by omega) rfl dX6_keeps_43 ?_
        refine z_iastGN F rfl rfl (Nat.le_of_ble_eq_true rfl) (by omega) dX6_keeps_44 ?_
        refine z_weq (w' := [_, _]) rfl ?_
        refine z_iincN F 1 dX6_keeps_45 rfl rfl ?_
        refine z_leq (L' := [_, _, _]) rfl ?_
        refine z_goto F (tgt := 22) dX6_keeps_48 (by decide) ?_
        refine ih _ _ (by omega) (by omega) (frm_zup hA (by decide)) ?_ ?_ (fun i hi => ?_) (fun i hi hne => ⟨?_, ?_, fun q hq => ?_⟩)
        · rw [zup2_ne (by decide)]; exact h1
        · rw [zup2_ne (by decide)]; exact h2
        · rw [zup2_at]
          split
          · rw [hA.at 6 rfl, l3 k (by omega)]; congr 1; omega
          · exact h3 i (by omega)
        · rw [zup2_ne (by decide)]; exact (ho i hi hne).1
        · rw [zup2_ne (by decide)]; exact (ho i hi hne).2.1
        · rw [zup2_at, if_neg (by omega)]; exact (ho i hi hne).2.2 q hq
  refine z_aload_n F dX6_keeps_0 rfl ?_
  refine z_ma F rfl 1 rfl (Nat.le_of_ble_eq_true rfl) rfl q1481 dX6_keeps_1 ?_
  refine z_iload_n F dX6_keeps_4 rfl ?_
  refine z_aload_n F dX6_keeps_5 rfl ?_
  refine z_mi F rfl 4 rfl (Nat.le_of_ble_eq_true rfl) rfl q1484 dX6_keeps_6 ?_
  refine z_iastGN F rfl rfl (Nat.le_of_ble_eq_true rfl) (by omega) dX6_keeps_9 ?_
  refine z_weq (w' := [_, _]) rfl ?_
  refine z_aload_n F dX6_keeps_10 rfl ?_
  refine z_ma F rfl 2 rfl (Nat.le_of_ble_eq_true rfl) rfl q1482 dX6_keeps_11 ?_
  refine z_iload_n F dX6_keeps_14 rfl ?_
  refine z_aload_n F dX6_keeps_15 rfl ?_
  refine z_mi F rfl 5 rfl (Nat.le_of_ble_eq_true rfl) rfl q1485 dX6_keeps_16 ?_
  refine z_iastGN F rfl rfl (Nat.le_of_ble_eq_true rfl) (by omega) dX6_keeps_19 ?_
  refine z_weq (w' := [_, _]) rfl ?_
  refine z_iconst F (nI 0) dX6_keeps_20 rfl ?_
  refine z_istore_n F dX6_keeps_21 (Nat.le_of_ble_eq_true rfl) ?_
  refine z_leq (L' := [_, _, _]) rfl ?_
  refine loop 25 0 _ (by omega) (by omega) (frm_zup (frm_zup frm.rf (by decide)) (by decide)) ?_ ?_ (fun i hi => by omega) (fun i hi hne => ⟨?_, ?_, fun q hq => ?_⟩)
  · rw [zup2_ne (by decide), zup2_at, if_pos rfl]; exact l1
  · rw [zup2_at, if_pos rfl]; exact l2
  · rw [zup2_ne (by decide), zup2_at, if_neg hne]
  · rw [zup2_at, if_neg hne, zup2_ne (by decide)]
  · rw [zup2_ne (by decide), zup2_ne (by decide)]
theorem c_clears (F0 : Nat → Int32) (G : Nat → Int64) (A : Nat → Nat → Int32) (B : Nat → Nat → Int64) (n : Nat) (d : Int32) :
    zCtr yX6_clears cX6_clears 4 none 0 0 0 [zr 1 0, zi (nI n), zi d] [zH, zG F0 G A B] (fun r w => r = none ∧ ∃ F' A', w = [zH, zG F' G A' B] ∧ frm [4, 5] F0 F' ∧ frm [6] A A' ∧ Lay F' A' n d (fun _ => nI 0)) zNx := by
  refine z_start (by decide) [some (zr 1 0), some (zi (nI n)), some (zi d), none] rfl (fun _ => Nat.le_of_ble_eq_true rfl) (fun _ => rfl) (fun X F E hno hin => ?_)
  have loop : ∀ (m k : Nat) (F' : Nat → Int32) (A' : Nat → Nat → Int32), 24 - k < m → k ≤ 24 → F' 4 = nI n → F' 5 = d → frm [4, 5] F0 F' → frm [6] A A' → (∀ i, i < k → A' 6 i = nI 0) → Z X [some (zr 1 0), some (zi (nI n)), some (zi d), some (zi (nI k))] [] [zH, zG F' G A' B] 0 0 12 := by
    intro m
    induction m with
    | zero => intro k F' A' hm; omega
    | succ m ih =>
      intro k F' A' hm hk h4 h5 hF hA h6
      refine z_iload_n F dX6_clears_12 rfl ?_
      refine z_bipush F (nI 24) dX6_clears_13 rfl ?_
      refine z_icmp_geN F (by omega) (by omega) (tgt := 31) dX6_clears_15 (by decide) (fun c_15 => ?_) (fun c_15 => ?_)
      · exact z_vret F E rfl dX6_clears_31 (by omega) (by omega) (⟨rfl, F', A', rfl, hF, hA, h4, h5, fun i hi => h6 i (by omega)⟩)
      · refine z_aload_n F dX6_clears_18 rfl ?_
        refine z_ma F rfl 6 rfl (Nat.le_of_ble_eq_true rfl) rfl q1486 dX6_clears_19 ?_
        refine z_iload_n F dX6_clears_22 rfl ?_
        refine z_iconst F (nI 0) dX6_clears_23 rfl ?_
        refine z_iastGN F rfl rfl (Nat.le_of_ble_eq_true rfl) (by omega) dX6_clears_24 ?_
        refine z_weq (w' := [_, _]) rfl ?_
        refine z_iincN F 1 dX6_clears_25 rfl rfl ?_
        refine z_leq (L' := [_, _, _, _]) rfl ?_
        refine z_goto F (tgt := 12) dX6_clears_28 (by decide) ?_
        refine ih _ _ _ (by omega) (by omega) h4 h5 hF (frm_zup hA (by decide)) (fun i hi => ?_)
        rw [zup2_at]
        split
        · rfl
        · exact h6 i (by omega)
  refine z_aload_n F dX6_clears_0 rfl ?_
  refine z_iload_n F dX6_clears_1 rfl ?_
  refine z_pmi F rfl 4 rfl (Nat.le_of_ble_eq_true rfl) rfl q1484 rfl rfl rfl dX6_clears_2 ?_
  refine z_weq (w' := [_, _]) rfl ?_
  refine z_aload_n F dX6_clears_5 rfl ?_
  refine z_iload_n F dX6_clears_6 rfl ?_
  refine z_pmi F rfl 5 rfl (Nat.le_of_ble_eq_true rfl) rfl q1485 rfl rfl rfl dX6_clears_7 ?_
  refine z_weq (w' := [_, _]) rfl ?_
  refine z_iconst F (nI 0) dX6_clears_10 rfl ?_
  refine z_istore_n F dX6_clears_11 (Nat.le_of_ble_eq_true rfl) ?_
  refine z_leq (L' := [_, _, _, _]) rfl ?_
  exact loop 25 0 _ _ (by omega) (by omega) rfl rfl (frm_upd (frm_upd frm.rf (by decide)) (by decide)) frm.rf (fun i hi => by omega)
theorem c_mhas (F0 : Nat → Int32) (G : Nat → Int64) (A : Nat → Nat → Int32) (B : Nat → Nat → Int64) (n : Nat) (a b : Int32) (h0 : F0 0 = nI 0) (h4 : F0 4 = nI n) :
    zCtr yX6_has cX6_has 3 (some .boolean) 1 0 0 [zr 1 0, zi a, zi b] [zH, zG F0 G A B] (fun r w => r = some (zi (bI (knB n a && knB n b))) ∧ w = [zH, zG (if (knB n a && knB n b) then F0 else upd F0 0 (nI 1)) G A B]) zNx := by
  refine z_start (by decide) [some (zr 1 0), some (zi a), some (zi b)] rfl (fun _ => Nat.le_of_ble_eq_true rfl) (fun _ => rfl) (fun X F E hno hin => ?_)
  have J : ∀ q : Bool, q = (knB n a && knB n b) → Z X [some (zr 1 0), some (zi a), some (zi b)] [zi (bI q), zr 1 0] [zH, zG F0 G A B] 0 0 22 := by
    intro q hq
    subst hq
    refine z_iconst F (nI 1) dX6_has_22 rfl ?_
    refine z_callV F (c_right _ _ _ _ _ 1 h0 (by omega) (by omega)) 2 rfl (lw_V q1736 q1738 qs43 q117 q1739) (by decide +kernel) ⟨Nat.le_of_ble_eq_true rfl, Nat.le_of_ble_eq_true rfl⟩ ⟨by omega, by omega⟩ [0, 1] 2 ⟨rfl, rfl, rfl, ⟨Or.inl rfl, Or.inr rfl, trivial⟩⟩ (fun h => nomatch h) (Nat.le_of_ble_eq_true rfl) ⟨⟨Or.inr trivial, Or.inl rfl, trivial⟩, rfl, rfl, rfl, Nat.le_of_ble_eq_true rfl⟩ rfl zC6 (zat_G0 rfl) rfl dX6_has_23 (fun r_23 w_23 hp => ?_) (fun _ _ h => h.elim)
    obtain ⟨rfl, rfl⟩ := hp
    refine z_weq (w' := [zH, zG _ _ _ _]) rfl ?_
    refine z_seq (S' := zi _ :: _) rfl ?_
    exact z_zret F E rfl (bI_nar _) dX6_has_26 (by omega) (by omega) (⟨rfl, rfl⟩)
  refine z_aload_n F dX6_has_0 rfl ?_
  refine z_aload_n F dX6_has_1 rfl ?_
  refine z_iload_n F dX6_has_2 rfl ?_
  refine z_callV F (c_isKnot _ _ _ _ n a h4) 1 rfl (lw_V q1744 q1746 qs45 q117 q1747) (by decide +kernel) ⟨Nat.le_of_ble_eq_true rfl, Nat.le_of_ble_eq_true rfl⟩ ⟨by omega, by omega⟩ [0, 1] 2 ⟨rfl, rfl, rfl, ⟨Or.inl rfl, Or.inr rfl, trivial⟩⟩ (fun h => nomatch h) (Nat.le_of_ble_eq_true rfl) ⟨⟨Or.inr trivial, Or.inl rfl, trivial⟩, rfl, rfl, rfl, Nat.le_of_ble_eq_true rfl⟩ rfl zC6 (zat_G0 rfl) rfl dX6_has_3 (fun r_3 w_3 hp => ?_) (fun _ _ h => h.elim)
  obtain ⟨rfl, rfl⟩ := hp
  refine z_weq (w' := [zH, zG _ _ _ _]) rfl ?_
  refine z_seq (S' := zi _ :: _) rfl ?_
  refine z_if_eqB F (tgt := 21) dX6_has_6 (by decide) (fun c_6 => ?_) (fun c_6 => ?_)
  · refine z_iconstB F false dX6_has_21 rfl ?_
    exact J _ (by first | (rw [c_6, c_14]; rfl) | (rw [c_6]; rfl))
  · refine z_aload_n F dX6_has_9 rfl ?_
    refine z_iload_n F dX6_has_10 rfl ?_
    refine z_callV F (c_isKnot _ _ _ _ n b h4) 1 rfl (lw_V q1744 q1746 qs45 q117 q1747) (by decide +kernel) ⟨Nat.le_of_ble_eq_true rfl, Nat.le_of_ble_eq_true rfl⟩ ⟨by omega, by omega⟩ [0, 1] 2 ⟨rfl, rfl, rfl, ⟨Or.inl rfl, Or.inr rfl, trivial⟩⟩ (fun h => nomatch h) (Nat.le_of_ble_eq_true rfl) ⟨⟨Or.inr trivial, Or.inl rfl, trivial⟩, rfl, rfl, rfl, Nat.le_of_ble_eq_true rfl⟩ rfl zC6 (zat_G0 rfl) rfl dX6_has_11 (fun r_11 w_11 hp => ?_) (fun _ _ h => h.elim)
    obtain ⟨rfl, rfl⟩ := hp
    refine z_weq (w' := [zH, zG _ _ _ _]) rfl ?_
    refine z_seq (S' := zi _ :: _) rfl ?_
    refine z_if_eqB F (tgt := 21) dX6_has_14 (by decide) (fun c_14 => ?_) (fun c_14 => ?_)
    · refine z_iconstB F false dX6_has_21 rfl ?_
      exact J _ (by first | (rw [c_6, c_14]; rfl) | (rw [c_6]; rfl))
    · refine z_iconstB F true dX6_has_17 rfl ?_
      refine z_goto F (tgt := 22) dX6_has_18 (by decide) ?_
      exact J _ (by first | (rw [c_6, c_14]; rfl) | (rw [c_6]; rfl))
end C32
