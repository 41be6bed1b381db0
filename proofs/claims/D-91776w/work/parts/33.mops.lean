/-! the reference: net, line, off, copy, count, thrown, fault -/
section C33
theorem inB_of {n : Int32} {a b : Nat} (ha : a < 2 ^ 31) (hb : b < 2 ^ 31) (h : inB n (nI a) (nI b) = true) : ∃ k, a ≤ k ∧ k ≤ b ∧ n = nI k := by
  unfold inB at h
  simp only [decide_eq_true_eq] at h
  have h1 : ¬ n < 0 := fun q => h.1 (by
    rw [Int32.lt_iff_toInt_lt, nI_toInt ha]
    rw [Int32.lt_iff_toInt_lt, Int32.toInt_zero] at q
    omega)
  obtain ⟨j, hj, e⟩ := nI_of h1
  rw [e] at h
  exact ⟨j, Nat.le_of_not_lt fun q => h.1 ((nI_ltI hj ha).mpr q), Nat.le_of_not_lt fun q => h.2 ((nI_ltI hb hj).mpr q), e⟩
theorem inB_n {a b k : Nat} (hb : b < 2 ^ 31) (h1 : a ≤ k) (h2 : k ≤ b) : inB (nI k) (nI a) (nI b) = true := by
  unfold inB
  simp only [decide_eq_true_eq]
  exact ⟨fun q => by have := (nI_ltI (by omega) (by omega)).mp q; omega, fun q => by have := (nI_ltI (by omega) (by omega)).mp q; omega⟩
/-- whether two knots may be joined -/
def mayJ (f : Nat → Int32) (d a b : Nat) : Bool := decide (a ≠ b) && (!bt (f a) b && (decide (pc32 (f a) < d) && decide (pc32 (f b) < d)))
theorem c_net_no (F0 : Nat → Int32) (G : Nat → Int64) (A : Nat → Nat → Int32) (B : Nat → Nat → Int64) (s n d : Int32) (h : (slB s && inB n (nI 1) (nI 24) && inB d (nI 1) (nI 8)) = false) :
    zCtr yX6_net cX6_net 4 (some .boolean) 1 0 0 [zr 1 0, zi s, zi n, zi d] [zH, zG F0 G A B] (fun r w => r = some (zi (bI false)) ∧ w = [zH, zG (upd F0 0 (nI 0)) G A B]) zNx := by
  refine z_start (by decide) [some (zr 1 0), some (zi s), some (zi n), some (zi d)] rfl (fun _ => Nat.le_of_ble_eq_true rfl) (fun _ => rfl) (fun X F E hno hin => ?_)
  refine z_aload_n F dX6_net_0 rfl ?_
  refine z_iconst F (nI 0) dX6_net_1 rfl ?_
  refine z_pmi F rfl 0 rfl (Nat.le_of_ble_eq_true rfl) rfl q1480 rfl rfl rfl dX6_net_2 ?_
  refine z_weq (w' := [_, _]) rfl ?_
  refine z_iload_n F dX6_net_5 rfl ?_
  refine z_callS F (c_isSlot s) 1 rfl (lw_S q1714 q1715 q117 q1716) (by decide +kernel) ⟨Nat.le_of_ble_eq_true rfl, Nat.le_of_ble_eq_true rfl⟩ ⟨by omega, by omega⟩ [0] 2 ⟨rfl, rfl, rfl, ⟨Or.inl rfl, trivial⟩⟩ (fun h => nomatch h) (Nat.le_of_ble_eq_true rfl) ⟨⟨Or.inr trivial, Or.inr trivial, trivial⟩, rfl, rfl, rfl, Nat.le_of_ble_eq_true rfl⟩ rfl rfl dX6_net_6 (fun r_6 w_6 hp => ?_) (fun _ _ h => h.elim)
  obtain ⟨rfl, rfl⟩ := hp
  refine z_weq (w' := [zH, zG _ _ _ _]) rfl ?_
  refine z_seq (S' := zi _ :: _) rfl ?_
  refine z_if_eqB F (tgt := 32) dX6_net_9 (by decide) (fun c_9 => ?_) (fun c_9 => ?_)
  · refine z_iconstB F false dX6_net_32 rfl ?_
    exact z_zret F E rfl rfl dX6_net_33 (by omega) (by omega) (⟨rfl, rfl⟩)
  · refine z_iload_n F dX6_net_12 rfl ?_
    refine z_iconst F (nI 1) dX6_net_13 rfl ?_
    refine z_bipush F (nI 24) dX6_net_14 rfl ?_
    refine z_callS F (c_within n (nI 1) (nI 24)) 3 rfl (lw_S q1717 q1718 q117 q1719) (by decide +kernel) ⟨Nat.le_of_ble_eq_true rfl, Nat.le_of_ble_eq_true rfl⟩ ⟨by omega, by omega⟩ [0] 2 ⟨rfl, rfl, rfl, ⟨Or.inl rfl, trivial⟩⟩ (fun h => nomatch h) (Nat.le_of_ble_eq_true rfl) ⟨⟨Or.inr trivial, Or.inr trivial, trivial⟩, rfl, rfl, rfl, Nat.le_of_ble_eq_true rfl⟩ rfl rfl dX6_net_16 (fun r_16 w_16 hp => ?_) (fun _ _ h => h.elim)
    obtain ⟨rfl, rfl⟩ := hp
    refine z_weq (w' := [zH, zG _ _ _ _]) rfl ?_
    refine z_seq (S' := zi _ :: _) rfl ?_
    refine z_if_eqB F (tgt := 32) dX6_net_19 (by decide) (fun c_19 => ?_) (fun c_19 => ?_)
    · refine z_iconstB F false dX6_net_32 rfl ?_
      exact z_zret F E rfl rfl dX6_net_33 (by omega) (by omega) (⟨rfl, rfl⟩)
    · refine z_iload_n F dX6_net_22 rfl ?_
      refine z_iconst F (nI 1) dX6_net_23 rfl ?_
      refine z_bipush F (nI 8) dX6_net_24 rfl ?_
      refine z_callS F (c_within d (nI 1) (nI 8)) 3 rfl (lw_S q1717 q1718 q117 q1719) (by decide +kernel) ⟨Nat.le_of_ble_eq_true rfl, Nat.le_of_ble_eq_true rfl⟩ ⟨by omega, by omega⟩ [0] 2 ⟨rfl, rfl, rfl, ⟨Or.inl rfl, trivial⟩⟩ (fun h => nomatch h) (Nat.le_of_ble_eq_true rfl) ⟨⟨Or.inr trivial, Or.inr trivial, trivial⟩, rfl, rfl, rfl, Nat.le_of_ble_eq_true rfl⟩ rfl rfl dX6_net_26 (fun r_26 w_26 hp => ?_) (fun _ _ h => h.elim)
      obtain ⟨rfl, rfl⟩ := hp
      refine z_weq (w' := [zH, zG _ _ _ _]) rfl ?_
      refine z_seq (S' := zi _ :: _) rfl ?_
      refine z_if_neB F (tgt := 34) dX6_net_29 (by decide) (fun c_29 => ?_) (fun c_29 => ?_)
      · rw [c_9, c_19, c_29] at h; cases h
      · refine z_iconstB F false dX6_net_32 rfl ?_
        exact z_zret F E rfl rfl dX6_net_33 (by omega) (by omega) (⟨rfl, rfl⟩)
theorem c_net_ok (F0 : Nat → Int32) (G : Nat → Int64) (A : Nat → Nat → Int32) (B : Nat → Nat → Int64) (j n : Nat) (d : Int32) (hj : j < 8) (hn : inB (nI n) (nI 1) (nI 24) = true) (hd : inB d (nI 1) (nI 8) = true) :
    zCtr yX6_net cX6_net 4 (some .boolean) 1 0 0 [zr 1 0, zi (nI j), zi (nI n), zi d] [zH, zG F0 G A B] (fun r w => r = some (zi (bI true)) ∧ ∃ F' A', w = [zH, zG F' G A' B] ∧ F' 0 = nI 0 ∧ frm [0, 4, 5] F0 F' ∧ frm [1, 2, 3, 6] A A' ∧ Slt A' j n d (fun _ => nI 0) ∧ ∀ i, i < 8 → i ≠ j → SltEq A A' i) zNx := by
  refine z_start (by decide) [some (zr 1 0), some (zi (nI j)), some (zi (nI n)), some (zi d)] rfl (fun _ => Nat.le_of_ble_eq_true rfl) (fun _ => rfl) (fun X F E hno hin => ?_)
  refine z_aload_n F dX6_net_0 rfl ?_
  refine z_iconst F (nI 0) dX6_net_1 rfl ?_
  refine z_pmi F rfl 0 rfl (Nat.le_of_ble_eq_true rfl) rfl q1480 rfl rfl rfl dX6_net_2 ?_
  refine z_weq (w' := [_, _]) rfl ?_
  refine z_iload_n F dX6_net_5 rfl ?_
  refine z_callS F (c_isSlot (nI j)) 1 rfl (lw_S q1714 q1715 q117 q1716) (by decide +kernel) ⟨Nat.le_of_ble_eq_true rfl, Nat.le_of_ble_eq_true rfl⟩ ⟨by omega, by omega⟩ [0] 2 ⟨rfl, rfl, rfl, ⟨Or.inl rfl, trivial⟩⟩ (fun h => nomatch h) (Nat.le_of_ble_eq_true rfl) ⟨⟨Or.inr trivial, Or.inr trivial, trivial⟩, rfl, rfl, rfl, Nat.le_of_ble_eq_true rfl⟩ rfl rfl dX6_net_6 (fun r_6 w_6 hp => ?_) (fun _ _ h => h.elim)
  obtain ⟨rfl, rfl⟩ := hp
  refine z_weq (w' := [zH, zG _ _ _ _]) rfl ?_
  refine z_seq (S' := zi _ :: _) rfl ?_
  refine z_if_eqB F (tgt := 32) dX6_net_9 (by decide) (fun c_9 => ?_) (fun c_9 => ?_)
  · rw [slB_n hj] at c_9; cases c_9
  · refine z_iload_n F dX6_net_12 rfl ?_
    refine z_iconst F (nI 1) dX6_net_13 rfl ?_
    refine z_bipush F (nI 24) dX6_net_14 rfl ?_
    refine z_callS F (c_within (nI n) (nI 1) (nI 24)) 3 rfl (lw_S q1717 q1718 q117 q1719) (by decide +kernel) ⟨Nat.le_of_ble_eq_true rfl, Nat.le_of_ble_eq_true rfl⟩ ⟨by omega, by omega⟩ [0] 2 ⟨rfl, rfl, rfl, ⟨Or.inl rfl, trivial⟩⟩ (fun h => nomatch h) (Nat.le_of_ble_eq_true rfl) ⟨⟨Or.inr trivial, Or.inr trivial, trivial⟩, rfl, rfl, rfl, Nat.le_of_ble_eq_true rfl⟩ rfl rfl dX6_net_16 (fun r_16 w_16 hp => ?_) (fun _ _ h => h.elim)
    obtain ⟨rfl, rfl⟩ := hp
    refine z_weq (w' := [zH, zG _ _ _ _]) rfl ?_
    refine z_seq (S' := zi _ :: _) rfl ?_
    refine z_if_eqB F (tgt := 32) dX6_net_19 (by decide) (fun c_19 => ?_) (fun c_19 => ?_)
    · rw [hn] at c_19; cases c_19
    · refine z_iload_n F dX6_net_22 rfl ?_
      refine z_iconst F (nI 1) dX6_net_23 rfl ?_
      refine z_bipush F (nI 8) dX6_net_24 rfl ?_
      refine z_callS F (c_within d (nI 1) (nI 8)) 3 rfl (lw_S q1717 q1718 q117 q1719) (by decide +kernel) ⟨Nat.le_of_ble_eq_true rfl, Nat.le_of_ble_eq_true rfl⟩ ⟨by omega, by omega⟩ [0] 2 ⟨rfl, rfl, rfl, ⟨Or.inl rfl, trivial⟩⟩ (fun h => nomatch h) (Nat.le_of_ble_eq_true rfl) ⟨⟨Or.inr trivial, Or.inr trivial, trivial⟩, rfl, rfl, rfl, Nat.le_of_ble_eq_true rfl⟩ rfl rfl dX6_net_26 (fun r_26 w_26 hp => ?_) (fun _ _ h => h.elim)
      obtain ⟨rfl, rfl⟩ := hp
      refine z_weq (w' := [zH, zG _ _ _ _]) rfl ?_
      refine z_seq (S' := zi _ :: _) rfl ?_
      refine z_if_neB F (tgt := 34) dX6_net_29 (by decide) (fun c_29 => ?_) (fun c_29 => ?_)
      · refine z_aload_n F dX6_net_34 rfl ?_
        refine z_iload_n F dX6_net_35 rfl ?_
        refine z_iload_n F dX6_net_36 rfl ?_
        refine z_callV F (c_clears _ _ _ _ n d) 2 rfl (lw_V q1720 q1722 qs40 q117 q1723) (by decide +kernel) ⟨Nat.le_of_ble_eq_true rfl, Nat.le_of_ble_eq_true rfl⟩ ⟨by omega, by omega⟩ [0, 1] 2 ⟨rfl, rfl, rfl, ⟨Or.inl rfl, Or.inr rfl, trivial⟩⟩ (fun h => nomatch h) (Nat.le_of_ble_eq_true rfl) ⟨⟨Or.inr trivial, Or.inl rfl, trivial⟩, rfl, rfl, rfl, Nat.le_of_ble_eq_true rfl⟩ rfl zC6 (zat_G0 rfl) rfl dX6_net_37 (fun r_37 w_37 hp => ?_) (fun _ _ h => h.elim)
        obtain ⟨rfl, F1, A1, rfl, f1, f2, f3⟩ := hp
        refine z_weq (w' := [zH, zG _ _ _ _]) rfl ?_
        refine z_seq (S' := []) rfl ?_
        refine z_aload_n F dX6_net_40 rfl ?_
        refine z_iload_n F dX6_net_41 rfl ?_
        refine z_callV F (c_keeps _ _ _ _ j n d _ hj f3) 1 rfl (lw_V q1724 q1726 qs41 q117 q1727) (by decide +kernel) ⟨Nat.le_of_ble_eq_true rfl, Nat.le_of_ble_eq_true rfl⟩ ⟨by omega, by omega⟩ [0, 1] 2 ⟨rfl, rfl, rfl, ⟨Or.inl rfl, Or.inr rfl, trivial⟩⟩ (fun h => nomatch h) (Nat.le_of_ble_eq_true rfl) ⟨⟨Or.inr trivial, Or.inl rfl, trivial⟩, rfl, rfl, rfl, Nat.le_of_ble_eq_true rfl⟩ rfl zC6 (zat_G0 rfl) rfl dX6_net_42 (fun r_42 w_42 hp => ?_) (fun _ _ h => h.elim)
        obtain ⟨rfl, A2, rfl, g1, g2, g3⟩ := hp
        refine z_weq (w' := [zH, zG _ _ _ _]) rfl ?_
        refine z_seq (S' := []) rfl ?_
        refine z_iconstB F true dX6_net_45 rfl ?_
        exact z_zret F E rfl rfl dX6_net_46 (by omega) (by omega) (⟨rfl, F1, A2, rfl, by rw [f1.at 0 rfl]; rfl, (frm_upd (l := [0]) frm.rf (by decide)).tr f1 (by decide) (by decide), f2.tr g1 (by decide) (by decide), g2, fun i hi hne => (SltEq.of6 f2 (by decide)).tr (g3 i hi hne)⟩)
      · rw [hd] at c_29; cases c_29
theorem c_thrown (F0 : Nat → Int32) (G : Nat → Int64) (A : Nat → Nat → Int32) (B : Nat → Nat → Int64) :
    zCtr yX6_thrown cX6_thrown 1 (some .int) 0 0 0 [zr 1 0] [zH, zG F0 G A B] (fun r w => r = some (zi (F0 0)) ∧ w = [zH, zG F0 G A B]) zNx := by
  refine z_start (by decide) [some (zr 1 0)] rfl (fun _ => Nat.le_of_ble_eq_true rfl) (fun _ => rfl) (fun X F E hno hin => ?_)
  refine z_aload_n F dX6_thrown_0 rfl ?_
  refine z_mi F rfl 0 rfl (Nat.le_of_ble_eq_true rfl) rfl q1480 dX6_thrown_1 ?_
  exact z_iret F E rfl dX6_thrown_4 (by omega) (by omega) (⟨rfl, rfl⟩)
theorem c_mfault (F0 : Nat → Int32) (G : Nat → Int64) (A : Nat → Nat → Int32) (B : Nat → Nat → Int64) :
    zCtr yX6_fault cX6_fault 1 (some .int) 0 0 0 [zr 1 0] [zH, zG F0 G A B] (fun r w => r = some (zi (F0 10)) ∧ w = [zH, zG (upd F0 0 (nI 0)) G A B]) zNx := by
  refine z_start (by decide) [some (zr 1 0)] rfl (fun _ => Nat.le_of_ble_eq_true rfl) (fun _ => rfl) (fun X F E hno hin => ?_)
  refine z_aload_n F dX6_fault_0 rfl ?_
  refine z_iconst F (nI 0) dX6_fault_1 rfl ?_
  refine z_pmi F rfl 0 rfl (Nat.le_of_ble_eq_true rfl) rfl q1480 rfl rfl rfl dX6_fault_2 ?_
  refine z_weq (w' := [_, _]) rfl ?_
  refine z_aload_n F dX6_fault_5 rfl ?_
  refine z_mi F rfl 10 rfl (Nat.le_of_ble_eq_true rfl) rfl q1490 dX6_fault_6 ?_
  exact z_iret F E rfl dX6_fault_9 (by omega) (by omega) (⟨rfl, rfl⟩)
theorem c_mcopy_ok (F0 : Nat → Int32) (G : Nat → Int64) (A : Nat → Nat → Int32) (B : Nat → Nat → Int64) (i n : Nat) (d : Int32) (f : Nat → Int32) (s : Int32) (hi : i < 8) (hn : 0 < n) (hn2 : n ≤ 24) (hs : Slt A i n d f) :
    zCtr yX6_copy cX6_copy 3 (some .boolean) 2 0 0 [zr 1 0, zi (nI i), zi s] [zH, zG F0 G A B] (fun r w => r = some (zi (bI (slB s))) ∧ ∃ F' A', w = [zH, zG F' G A' B] ∧ F' 0 = nI 0 ∧ frm [0, 4, 5] F0 F' ∧ frm [1, 2, 3, 6] A A' ∧ (∀ j, j < 8 → s = nI j → Slt A' j n d f) ∧ ∀ i, i < 8 → s ≠ nI i → SltEq A A' i) zNx := by
  refine z_start (by decide) [some (zr 1 0), some (zi (nI i)), some (zi s)] rfl (fun _ => Nat.le_of_ble_eq_true rfl) (fun _ => rfl) (fun X F E hno hin => ?_)
  refine z_aload_n F dX6_copy_0 rfl ?_
  refine z_iload_n F dX6_copy_1 rfl ?_
  refine z_callV F (c_lays_ok _ _ _ _ i n d f hi hn hn2 hs) 1 rfl (lw_V q1732 q1734 qs42 q117 q1735) (by decide +kernel) ⟨Nat.le_of_ble_eq_true rfl, Nat.le_of_ble_eq_true rfl⟩ ⟨by omega, by omega⟩ [0, 1] 2 ⟨rfl, rfl, rfl, ⟨Or.inl rfl, Or.inr rfl, trivial⟩⟩ (fun h => nomatch h) (Nat.le_of_ble_eq_true rfl) ⟨⟨Or.inr trivial, Or.inl rfl, trivial⟩, rfl, rfl, rfl, Nat.le_of_ble_eq_true rfl⟩ rfl zC6 (zat_G0 rfl) rfl dX6_copy_2 (fun r_2 w_2 hp => ?_) (fun _ _ h => h.elim)
  obtain ⟨rfl, F1, A1, rfl, f0, f1, f2, f3⟩ := hp
  refine z_weq (w' := [zH, zG _ _ _ _]) rfl ?_
  refine z_seq (S' := zi _ :: _) rfl ?_
  refine z_if_neB F (tgt := 10) dX6_copy_5 (by decide) (fun c_5 => ?_) (fun c_5 => ?_)
  · refine z_iload_n F dX6_copy_10 rfl ?_
    refine z_callS F (c_isSlot s) 1 rfl (lw_S q1714 q1715 q117 q1716) (by decide +kernel) ⟨Nat.le_of_ble_eq_true rfl, Nat.le_of_ble_eq_true rfl⟩ ⟨by omega, by omega⟩ [0] 2 ⟨rfl, rfl, rfl, ⟨Or.inl rfl, trivial⟩⟩ (fun h => nomatch h) (Nat.le_of_ble_eq_true rfl) ⟨⟨Or.inr trivial, Or.inr trivial, trivial⟩, rfl, rfl, rfl, Nat.le_of_ble_eq_true rfl⟩ rfl rfl dX6_copy_11 (fun r_11 w_11 hp => ?_) (fun _ _ h => h.elim)
    obtain ⟨rfl, rfl⟩ := hp
    refine z_weq (w' := [zH, zG _ _ _ _]) rfl ?_
    refine z_seq (S' := zi _ :: _) rfl ?_
    refine z_if_neB F (tgt := 19) dX6_copy_14 (by decide) (fun c_14 => ?_) (fun c_14 => ?_)
    · obtain ⟨j, hj, rfl⟩ := slB_of c_14
      refine z_aload_n F dX6_copy_19 rfl ?_
      refine z_iload_n F dX6_copy_20 rfl ?_
      refine z_callV F (c_keeps _ _ _ _ j n d _ hj f3) 1 rfl (lw_V q1724 q1726 qs41 q117 q1727) (by decide +kernel) ⟨Nat.le_of_ble_eq_true rfl, Nat.le_of_ble_eq_true rfl⟩ ⟨by omega, by omega⟩ [0, 1] 2 ⟨rfl, rfl, rfl, ⟨Or.inl rfl, Or.inr rfl, trivial⟩⟩ (fun h => nomatch h) (Nat.le_of_ble_eq_true rfl) ⟨⟨Or.inr trivial, Or.inl rfl, trivial⟩, rfl, rfl, rfl, Nat.le_of_ble_eq_true rfl⟩ rfl zC6 (zat_G0 rfl) rfl dX6_copy_21 (fun r_21 w_21 hp => ?_) (fun _ _ h => h.elim)
      obtain ⟨rfl, A2, rfl, g1, g2, g3⟩ := hp
      refine z_weq (w' := [zH, zG _ _ _ _]) rfl ?_
      refine z_seq (S' := []) rfl ?_
      refine z_iconstB F true dX6_copy_24 rfl ?_
      exact z_zret F E rfl rfl dX6_copy_25 (by omega) (by omega) (⟨by rw [c_14], F1, A2, rfl, f0, f1, f2.tr g1 (by decide) (by decide), fun q hq e => by rw [(nI_eq (by omega) (by omega)).mp e] at g2; exact g2, fun q hq e => (SltEq.of6 f2 (by decide)).tr (g3 q hq (fun z => e (by rw [z])))⟩)
    · refine z_iconstB F false dX6_copy_17 rfl ?_
      exact z_zret F E rfl rfl dX6_copy_18 (by omega) (by omega) (⟨by rw [c_14], F1, A1, rfl, f0, f1, f2.to (by decide), fun q hq e => (by rw [e, slB_n hq] at c_14; cases c_14), fun q hq e => SltEq.of6 f2 (by decide)⟩)
  · cases c_5
theorem c_line_ok (F0 : Nat → Int32) (G : Nat → Int64) (A : Nat → Nat → Int32) (B : Nat → Nat → Int64) (j n d : Nat) (f : Nat → Int32) (a b : Nat) (hj : j < 8) (hn : 0 < n) (hn2 : n ≤ 24) (hd : d < 9) (hs : Slt A j n (nI d) f) (ha : a < n) (hb : b < n) :
    zCtr yX6_line cX6_line 4 (some .boolean) 2 0 0 [zr 1 0, zi (nI j), zi (nI a), zi (nI b)] [zH, zG F0 G A B] (fun r w => r = some (zi (bI (mayJ f d a b))) ∧ ∃ F' A', w = [zH, zG F' G A' B] ∧ F' 0 = nI 0 ∧ frm [0, 4, 5] F0 F' ∧ frm [1, 2, 3, 6] A A' ∧ Slt A' j n (nI d) (if mayJ f d a b then jn f a b else f) ∧ ∀ i, i < 8 → i ≠ j → SltEq A A' i) zNx := by
  refine z_start (by decide) [some (zr 1 0), some (zi (nI j)), some (zi (nI a)), some (zi (nI b))] rfl (fun _ => Nat.le_of_ble_eq_true rfl) (fun _ => rfl) (fun X F E hno hin => ?_)
  have p1 := pc32_le (f a)
  have p2 := pc32_le (f b)
  refine z_aload_n F dX6_line_0 rfl ?_
  refine z_iload_n F dX6_line_1 rfl ?_
  refine z_callV F (c_lays_ok _ _ _ _ j n (nI d) f hj hn hn2 hs) 1 rfl (lw_V q1732 q1734 qs42 q117 q1735) (by decide +kernel) ⟨Nat.le_of_ble_eq_true rfl, Nat.le_of_ble_eq_true rfl⟩ ⟨by omega, by omega⟩ [0, 1] 2 ⟨rfl, rfl, rfl, ⟨Or.inl rfl, Or.inr rfl, trivial⟩⟩ (fun h => nomatch h) (Nat.le_of_ble_eq_true rfl) ⟨⟨Or.inr trivial, Or.inl rfl, trivial⟩, rfl, rfl, rfl, Nat.le_of_ble_eq_true rfl⟩ rfl zC6 (zat_G0 rfl) rfl dX6_line_2 (fun r_2 w_2 hp => ?_) (fun _ _ h => h.elim)
  obtain ⟨rfl, F1, A1, rfl, f0, f1, f2, f3⟩ := hp
  have g4 := f3.1
  have g5 := f3.2.1
  have ga := f3.2.2 a (by omega)
  have gb := f3.2.2 b (by omega)
  refine z_weq (w' := [zH, zG _ _ _ _]) rfl ?_
  refine z_seq (S' := zi _ :: _) rfl ?_
  refine z_if_eqB F (tgt := 17) dX6_line_5 (by decide) (fun c_5 => ?_) (fun c_5 => ?_)
  · cases c_5
  · refine z_aload_n F dX6_line_8 rfl ?_
    refine z_iload_n F dX6_line_9 rfl ?_
    refine z_iload_n F dX6_line_10 rfl ?_
    refine z_callV F (c_mhas _ _ _ _ n (nI a) (nI b) f0 f3.1) 2 rfl (lw_V q1740 q1742 qs44 q117 q1743) (by decide +kernel) ⟨Nat.le_of_ble_eq_true rfl, Nat.le_of_ble_eq_true rfl⟩ ⟨by omega, by omega⟩ [0, 1] 2 ⟨rfl, rfl, rfl, ⟨Or.inl rfl, Or.inr rfl, trivial⟩⟩ (fun h => nomatch h) (Nat.le_of_ble_eq_true rfl) ⟨⟨Or.inr trivial, Or.inl rfl, trivial⟩, rfl, rfl, rfl, Nat.le_of_ble_eq_true rfl⟩ rfl zC6 (zat_G0 rfl) rfl dX6_line_11 (fun r_11 w_11 hp => ?_) (fun _ _ h => h.elim)
    obtain ⟨rfl, rfl⟩ := hp
    rw [knB_n ha (by omega), knB_n hb (by omega), Bool.and_self]
    rw [if_pos rfl]
    refine z_weq (w' := [zH, zG _ _ _ _]) rfl ?_
    refine z_seq (S' := zi _ :: _) rfl ?_
    refine z_if_neB F (tgt := 19) dX6_line_14 (by decide) (fun c_14 => ?_) (fun c_14 => ?_)
    · refine z_iload_n F dX6_line_19 rfl ?_
      refine z_iload_n F dX6_line_20 rfl ?_
      refine z_icmp_eqN F (by omega) (by omega) (tgt := 65) dX6_line_21 (by decide) (fun c_21 => ?_) (fun c_21 => ?_)
      · have hm : mayJ f d a b = false := by
          unfold mayJ
          first | (simp [c_21]; done) | (simp [c_30]; done) | (simp [Nat.not_lt.mpr c_46]; done) | (simp [Nat.not_lt.mpr c_62]; done)
        refine z_iconstB F false dX6_line_65 rfl ?_
        exact z_zret F E rfl rfl dX6_line_66 (by omega) (by omega) (⟨by rw [hm], F1, A1, rfl, f0, f1, f2.to (by decide), by rw [hm, if_neg (by decide)]; exact hs.to (SltEq.of6 f2 (by decide)), fun i hi hne => SltEq.of6 f2 (by decide)⟩)
      · refine z_aload_n F dX6_line_24 rfl ?_
        refine z_iload_n F dX6_line_25 rfl ?_
        refine z_iload_n F dX6_line_26 rfl ?_
        refine z_callV F (c_isJoined _ _ _ _ a b (by omega) (by omega)) 2 rfl (lw_V q1748 q1750 qs46 q117 q1751) (by decide +kernel) ⟨Nat.le_of_ble_eq_true rfl, Nat.le_of_ble_eq_true rfl⟩ ⟨by omega, by omega⟩ [0, 1] 2 ⟨rfl, rfl, rfl, ⟨Or.inl rfl, Or.inr rfl, trivial⟩⟩ (fun h => nomatch h) (Nat.le_of_ble_eq_true rfl) ⟨⟨Or.inr trivial, Or.inl rfl, trivial⟩, rfl, rfl, rfl, Nat.le_of_ble_eq_true rfl⟩ rfl zC6 (zat_G0 rfl) rfl dX6_line_27 (fun r_27 w_27 hp => ?_) (fun _ _ h => h.elim)
        obtain ⟨rfl, rfl⟩ := hp
        rw [ga]
        refine z_weq (w' := [zH, zG _ _ _ _]) rfl ?_
        refine z_seq (S' := zi _ :: _) rfl ?_
        refine z_if_neB F (tgt := 65) dX6_line_30 (by decide) (fun c_30 => ?_) (fun c_30 => ?_)
        · have hm : mayJ f d a b = false := by
            unfold mayJ
            first | (simp [c_21]; done) | (simp [c_30]; done) | (simp [Nat.not_lt.mpr c_46]; done) | (simp [Nat.not_lt.mpr c_62]; done)
          refine z_iconstB F false dX6_line_65 rfl ?_
          exact z_zret F E rfl rfl dX6_line_66 (by omega) (by omega) (⟨by rw [hm], F1, A1, rfl, f0, f1, f2.to (by decide), by rw [hm, if_neg (by decide)]; exact hs.to (SltEq.of6 f2 (by decide)), fun i hi hne => SltEq.of6 f2 (by decide)⟩)
        · refine z_aload_n F dX6_line_33 rfl ?_
          refine z_ma F rfl 6 rfl (Nat.le_of_ble_eq_true rfl) rfl q1486 dX6_line_34 ?_
          refine z_iload_n F dX6_line_37 rfl ?_
          refine z_ialdGN F rfl rfl (Nat.le_of_ble_eq_true rfl) (by omega) rfl dX6_line_38 ?_
          refine z_ieq (ga) ?_
          refine z_callS F (c_bits (f a)) 1 rfl (lw_S q1752 q1753 q117 q1754) (by decide +kernel) ⟨Nat.le_of_ble_eq_true rfl, Nat.le_of_ble_eq_true rfl⟩ ⟨by omega, by omega⟩ [0] 2 ⟨rfl, rfl, rfl, ⟨Or.inl rfl, trivial⟩⟩ (fun h => nomatch h) (Nat.le_of_ble_eq_true rfl) ⟨⟨Or.inr trivial, Or.inr trivial, trivial⟩, rfl, rfl, rfl, Nat.le_of_ble_eq_true rfl⟩ rfl rfl dX6_line_39 (fun r_39 w_39 hp => ?_) (fun _ _ h => h.elim)
          obtain ⟨rfl, rfl⟩ := hp
          refine z_weq (w' := [zH, zG _ _ _ _]) rfl ?_
          refine z_seq (S' := zi _ :: _) rfl ?_
          refine z_aload_n F dX6_line_42 rfl ?_
          refine z_mi F rfl 5 rfl (Nat.le_of_ble_eq_true rfl) rfl q1485 dX6_line_43 ?_
          refine z_ieq (g5) ?_
          refine z_icmp_geN F (by omega) (by omega) (tgt := 65) dX6_line_46 (by decide) (fun c_46 => ?_) (fun c_46 => ?_)
          · have hm : mayJ f d a b = false := by
              unfold mayJ
              first | (simp [c_21]; done) | (simp [c_30]; done) | (simp [Nat.not_lt.mpr c_46]; done) | (simp [Nat.not_lt.mpr c_62]; done)
            refine z_iconstB F false dX6_line_65 rfl ?_
            exact z_zret F E rfl rfl dX6_line_66 (by omega) (by omega) (⟨by rw [hm], F1, A1, rfl, f0, f1, f2.to (by decide), by rw [hm, if_neg (by decide)]; exact hs.to (SltEq.of6 f2 (by decide)), fun i hi hne => SltEq.of6 f2 (by decide)⟩)
          · refine z_aload_n F dX6_line_49 rfl ?_
            refine z_ma F rfl 6 rfl (Nat.le_of_ble_eq_true rfl) rfl q1486 dX6_line_50 ?_
            refine z_iload_n F dX6_line_53 rfl ?_
            refine z_ialdGN F rfl rfl (Nat.le_of_ble_eq_true rfl) (by omega) rfl dX6_line_54 ?_
            refine z_ieq (gb) ?_
            refine z_callS F (c_bits (f b)) 1 rfl (lw_S q1752 q1753 q117 q1754) (by decide +kernel) ⟨Nat.le_of_ble_eq_true rfl, Nat.le_of_ble_eq_true rfl⟩ ⟨by omega, by omega⟩ [0] 2 ⟨rfl, rfl, rfl, ⟨Or.inl rfl, trivial⟩⟩ (fun h => nomatch h) (Nat.le_of_ble_eq_true rfl) ⟨⟨Or.inr trivial, Or.inr trivial, trivial⟩, rfl, rfl, rfl, Nat.le_of_ble_eq_true rfl⟩ rfl rfl dX6_line_55 (fun r_55 w_55 hp => ?_) (fun _ _ h => h.elim)
            obtain ⟨rfl, rfl⟩ := hp
            refine z_weq (w' := [zH, zG _ _ _ _]) rfl ?_
            refine z_seq (S' := zi _ :: _) rfl ?_
            refine z_aload_n F dX6_line_58 rfl ?_
            refine z_mi F rfl 5 rfl (Nat.le_of_ble_eq_true rfl) rfl q1485 dX6_line_59 ?_
            refine z_ieq (g5) ?_
            refine z_icmp_ltN F (by omega) (by omega) (tgt := 67) dX6_line_62 (by decide) (fun c_62 => ?_) (fun c_62 => ?_)
            · have hm : mayJ f d a b = true := by
                unfold mayJ
                simp [c_21, c_30, c_46, c_62]
              refine z_aload_n F dX6_line_67 rfl ?_
              refine z_iload_n F dX6_line_68 rfl ?_
              refine z_iload_n F dX6_line_69 rfl ?_
              refine z_callV F (c_joins _ _ _ _ a b (by omega) (by omega)) 2 rfl (lw_V q1755 q1757 qs47 q117 q1758) (by decide +kernel) ⟨Nat.le_of_ble_eq_true rfl, Nat.le_of_ble_eq_true rfl⟩ ⟨by omega, by omega⟩ [0, 1] 2 ⟨rfl, rfl, rfl, ⟨Or.inl rfl, Or.inr rfl, trivial⟩⟩ (fun h => nomatch h) (Nat.le_of_ble_eq_true rfl) ⟨⟨Or.inr trivial, Or.inl rfl, trivial⟩, rfl, rfl, rfl, Nat.le_of_ble_eq_true rfl⟩ rfl zC6 (zat_G0 rfl) rfl dX6_line_70 (fun r_70 w_70 hp => ?_) (fun _ _ h => h.elim)
              obtain ⟨rfl, rfl⟩ := hp
              refine z_weq (w' := [zH, zG _ _ _ _]) rfl ?_
              refine z_seq (S' := []) rfl ?_
              refine z_aload_n F dX6_line_73 rfl ?_
              refine z_iload_n F dX6_line_74 rfl ?_
              refine z_callV F (c_keeps _ _ _ _ j n (nI d) (jn f a b) hj ⟨g4, g5, fun k hk => by rw [fA_at]; exact jn_cong f3.2.2 (by omega) (by omega) hk⟩) 1 rfl (lw_V q1724 q1726 qs41 q117 q1727) (by decide +kernel) ⟨Nat.le_of_ble_eq_true rfl, Nat.le_of_ble_eq_true rfl⟩ ⟨by omega, by omega⟩ [0, 1] 2 ⟨rfl, rfl, rfl, ⟨Or.inl rfl, Or.inr rfl, trivial⟩⟩ (fun h => nomatch h) (Nat.le_of_ble_eq_true rfl) ⟨⟨Or.inr trivial, Or.inl rfl, trivial⟩, rfl, rfl, rfl, Nat.le_of_ble_eq_true rfl⟩ rfl zC6 (zat_G0 rfl) rfl dX6_line_75 (fun r_75 w_75 hp => ?_) (fun _ _ h => h.elim)
              obtain ⟨rfl, A2, rfl, g1, g2, g3⟩ := hp
              refine z_weq (w' := [zH, zG _ _ _ _]) rfl ?_
              refine z_seq (S' := []) rfl ?_
              refine z_iconstB F true dX6_line_78 rfl ?_
              exact z_zret F E rfl rfl dX6_line_79 (by omega) (by omega) (⟨by rw [hm], F1, A2, rfl, f0, f1, (f2.tr (frm_fA (l := [6]) frm.rf (by decide)) (l2 := [6]) (by decide) (by decide)).tr g1 (by decide) (by decide), by rw [hm, if_pos rfl]; exact g2, fun i hi hne => ((SltEq.of6 f2 (by decide)).tr (SltEq.of6 (frm_fA (l := [6]) frm.rf (by decide)) (by decide))).tr (g3 i hi hne)⟩)
            · have hm : mayJ f d a b = false := by
                unfold mayJ
                first | (simp [c_21]; done) | (simp [c_30]; done) | (simp [Nat.not_lt.mpr c_46]; done) | (simp [Nat.not_lt.mpr c_62]; done)
              refine z_iconstB F false dX6_line_65 rfl ?_
              exact z_zret F E rfl rfl dX6_line_66 (by omega) (by omega) (⟨by rw [hm], F1, A1, rfl, f0, f1, f2.to (by decide), by rw [hm, if_neg (by decide)]; exact hs.to (SltEq.of6 f2 (by decide)), fun i hi hne => SltEq.of6 f2 (by decide)⟩)
    · cases c_14
end C33
