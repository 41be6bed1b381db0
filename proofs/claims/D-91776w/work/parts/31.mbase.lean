/-! the reference's small methods -/
section C31
def slB (s : Int32) : Bool := decide (¬ s < 0 ∧ s < nI 8)
theorem slB_of {s : Int32} (h : slB s = true) : ∃ j, j < 8 ∧ s = nI j := by
  unfold slB at h
  simp only [decide_eq_true_eq] at h
  obtain ⟨j, hj, e⟩ := nI_of h.1
  rw [e] at h
  exact ⟨j, (nI_ltI hj (by omega)).mp h.2, e⟩
theorem slB_n {j : Nat} (h : j < 8) : slB (nI j) = true := by
  unfold slB
  simp only [decide_eq_true_eq]
  exact ⟨nI_pos (by omega), (nI_ltI (by omega) (by omega)).mpr h⟩
def inB (v a b : Int32) : Bool := decide (¬ v < a ∧ ¬ b < v)
def knB (kn : Nat) (s : Int32) : Bool := decide (¬ s < 0 ∧ s < nI kn)
theorem knB_of {kn : Nat} {s : Int32} (hk : kn ≤ 24) (h : knB kn s = true) : ∃ j, j < kn ∧ s = nI j := by
  unfold knB at h
  simp only [decide_eq_true_eq] at h
  obtain ⟨j, hj, e⟩ := nI_of h.1
  rw [e] at h
  exact ⟨j, (nI_ltI hj (by omega)).mp h.2, e⟩
theorem knB_n {kn j : Nat} (h : j < kn) (hk : kn ≤ 24) : knB kn (nI j) = true := by
  unfold knB
  simp only [decide_eq_true_eq]
  exact ⟨nI_pos (by omega), (nI_ltI (by omega) (by omega)).mpr h⟩
theorem c_isSlot (s : Int32) : zCtr yX6_isSlot cX6_isSlot 1 (some .boolean) 0 0 0 [zi s] [zH] (fun r w => r = some (zi (bI (slB s))) ∧ w = [zH]) zNx := by
  refine z_start (by decide) [some (zi s)] rfl (fun _ => Nat.le_of_ble_eq_true rfl) (fun _ => rfl) (fun X F E hno hin => ?_)
  have hh : ∀ b : Bool, (b = true ↔ (¬ s < 0 ∧ s < nI 8)) → b = slB s := fun b h => by
    unfold slB; cases b
    · symm; simp only [decide_eq_false_iff_not]; exact fun q => nomatch h.mpr q
    · symm; simp only [decide_eq_true_eq]; exact h.mp rfl
  refine z_iload_n F dX6_isSlot_0 rfl ?_
  refine z_if_lt F (tgt := 14) dX6_isSlot_1 (by decide) (fun c_1 => ?_) (fun c_1 => ?_)
  · have e := hh false (by simp [c_1])
    refine z_iconst F (nI 0) dX6_isSlot_14 rfl ?_
    exact z_zret F E rfl rfl dX6_isSlot_15 (by omega) (by omega) (⟨by rw [← e]; rfl, rfl⟩)
  · refine z_iload_n F dX6_isSlot_4 rfl ?_
    refine z_bipush F (nI 8) dX6_isSlot_5 rfl ?_
    refine z_icmp_ge F (tgt := 14) dX6_isSlot_7 (by decide) (fun c_7 => ?_) (fun c_7 => ?_)
    · have e := hh false (by simp only [Bool.false_eq_true, false_iff]; exact fun q => absurd q.2 (Int32.not_lt.mpr c_7))
      refine z_iconst F (nI 0) dX6_isSlot_14 rfl ?_
      exact z_zret F E rfl rfl dX6_isSlot_15 (by omega) (by omega) (⟨by rw [← e]; rfl, rfl⟩)
    · have e := hh true (by simp only [true_iff]; exact ⟨c_1, Int32.not_le.mp c_7⟩)
      refine z_iconst F (nI 1) dX6_isSlot_10 rfl ?_
      refine z_goto F (tgt := 15) dX6_isSlot_11 (by decide) ?_
      exact z_zret F E rfl rfl dX6_isSlot_15 (by omega) (by omega) (⟨by rw [← e]; rfl, rfl⟩)
theorem c_within (v a b : Int32) : zCtr yX6_within cX6_within 3 (some .boolean) 0 0 0 [zi v, zi a, zi b] [zH] (fun r w => r = some (zi (bI (inB v a b))) ∧ w = [zH]) zNx := by
  refine z_start (by decide) [some (zi v), some (zi a), some (zi b)] rfl (fun _ => Nat.le_of_ble_eq_true rfl) (fun _ => rfl) (fun X F E hno hin => ?_)
  refine z_iload_n F dX6_within_0 rfl ?_
  refine z_iload_n F dX6_within_1 rfl ?_
  refine z_icmp_lt F (tgt := 14) dX6_within_2 (by decide) (fun c_2 => ?_) (fun c_2 => ?_)
  · have e : inB v a b = false := by unfold inB; simp [c_2]
    refine z_iconst F (nI 0) dX6_within_14 rfl ?_
    exact z_zret F E rfl rfl dX6_within_15 (by omega) (by omega) (⟨by rw [e]; rfl, rfl⟩)
  · refine z_iload_n F dX6_within_5 rfl ?_
    refine z_iload_n F dX6_within_6 rfl ?_
    refine z_icmp_gt F (tgt := 14) dX6_within_7 (by decide) (fun c_7 => ?_) (fun c_7 => ?_)
    · have e : inB v a b = false := by unfold inB; simp [c_7]
      refine z_iconst F (nI 0) dX6_within_14 rfl ?_
      exact z_zret F E rfl rfl dX6_within_15 (by omega) (by omega) (⟨by rw [e]; rfl, rfl⟩)
    · have e : inB v a b = true := by unfold inB; simp only [decide_eq_true_eq]; exact ⟨c_2, c_7⟩
      refine z_iconst F (nI 1) dX6_within_10 rfl ?_
      refine z_goto F (tgt := 15) dX6_within_11 (by decide) ?_
      exact z_zret F E rfl rfl dX6_within_15 (by omega) (by omega) (⟨by rw [e]; rfl, rfl⟩)
theorem c_right (F0 : Nat → Int32) (G : Nat → Int64) (A : Nat → Nat → Int32) (B : Nat → Nat → Int64) (b : Bool) (x : Nat) (h0 : F0 0 = nI 0) (hx : 0 < x) (hx2 : x < 9) : zCtr yX6_right cX6_right 3 (some .boolean) 0 0 0 [zr 1 0, zi (bI b), zi (nI x)] [zH, zG F0 G A B] (fun r w => r = some (zi (bI b)) ∧ w = [zH, zG (if b then F0 else upd F0 0 (nI x)) G A B]) zNx := by
  refine z_start (by decide) [some (zr 1 0), some (zi (bI b)), some (zi (nI x))] rfl (fun _ => Nat.le_of_ble_eq_true rfl) (fun _ => rfl) (fun X F E hno hin => ?_)
  refine z_aload_n F dX6_right_0 rfl ?_
  refine z_mi F rfl 0 rfl (Nat.le_of_ble_eq_true rfl) rfl q1480 dX6_right_1 ?_
  refine z_ieq (h0) ?_
  refine z_if_neN F (by omega) (tgt := 16) dX6_right_4 (by decide) (fun c_4 => ?_) (fun c_4 => ?_)
  · exact absurd c_4 (by omega)
  · refine z_iload_n F dX6_right_7 rfl ?_
    refine z_if_neB F (tgt := 16) dX6_right_8 (by decide) (fun c_8 => ?_) (fun c_8 => ?_)
    · subst c_8
      refine z_aload_n F dX6_right_16 rfl ?_
      refine z_mi F rfl 0 rfl (Nat.le_of_ble_eq_true rfl) rfl q1480 dX6_right_17 ?_
      refine z_ieq ((by first | exact h0 | exact (rfl : upd F0 0 (nI x) 0 = nI x))) ?_
      refine z_if_neN F (by omega) (tgt := 27) dX6_right_20 (by decide) (fun c_20 => ?_) (fun c_20 => ?_)
      · refine z_iconst F (nI 0) dX6_right_27 rfl ?_
        exact z_zret F E rfl rfl dX6_right_28 (by omega) (by omega) (by first | exact ⟨rfl, rfl⟩ | exact absurd c_20 (by omega))
      · refine z_iconst F (nI 1) dX6_right_23 rfl ?_
        refine z_goto F (tgt := 28) dX6_right_24 (by decide) ?_
        exact z_zret F E rfl rfl dX6_right_28 (by omega) (by omega) (by first | exact ⟨rfl, rfl⟩ | exact absurd c_20 (by omega))
    · subst c_8
      refine z_aload_n F dX6_right_11 rfl ?_
      refine z_iload_n F dX6_right_12 rfl ?_
      refine z_pmi F rfl 0 rfl (Nat.le_of_ble_eq_true rfl) rfl q1480 rfl rfl rfl dX6_right_13 ?_
      refine z_weq (w' := [_, _]) rfl ?_
      refine z_aload_n F dX6_right_16 rfl ?_
      refine z_mi F rfl 0 rfl (Nat.le_of_ble_eq_true rfl) rfl q1480 dX6_right_17 ?_
      refine z_ieq ((by first | exact h0 | exact (rfl : upd F0 0 (nI x) 0 = nI x))) ?_
      refine z_if_neN F (by omega) (tgt := 27) dX6_right_20 (by decide) (fun c_20 => ?_) (fun c_20 => ?_)
      · refine z_iconst F (nI 0) dX6_right_27 rfl ?_
        exact z_zret F E rfl rfl dX6_right_28 (by omega) (by omega) (by first | exact ⟨rfl, rfl⟩ | exact absurd c_20 (by omega))
      · refine z_iconst F (nI 1) dX6_right_23 rfl ?_
        refine z_goto F (tgt := 28) dX6_right_24 (by decide) ?_
        exact z_zret F E rfl rfl dX6_right_28 (by omega) (by omega) (by first | exact ⟨rfl, rfl⟩ | exact absurd c_20 (by omega))
theorem c_isKnot (F0 : Nat → Int32) (G : Nat → Int64) (A : Nat → Nat → Int32) (B : Nat → Nat → Int64) (kn : Nat) (s : Int32) (hk : F0 4 = nI kn) : zCtr yX6_isKnot cX6_isKnot 2 (some .boolean) 0 0 0 [zr 1 0, zi s] [zH, zG F0 G A B] (fun r w => r = some (zi (bI (knB kn s))) ∧ w = [zH, zG F0 G A B]) zNx := by
  refine z_start (by decide) [some (zr 1 0), some (zi s)] rfl (fun _ => Nat.le_of_ble_eq_true rfl) (fun _ => rfl) (fun X F E hno hin => ?_)
  refine z_iload_n F dX6_isKnot_0 rfl ?_
  refine z_if_lt F (tgt := 16) dX6_isKnot_1 (by decide) (fun c_1 => ?_) (fun c_1 => ?_)
  · have e : knB kn s = false := by unfold knB; simp [c_1]
    refine z_iconst F (nI 0) dX6_isKnot_16 rfl ?_
    exact z_zret F E rfl rfl dX6_isKnot_17 (by omega) (by omega) (⟨by rw [e]; rfl, rfl⟩)
  · refine z_iload_n F dX6_isKnot_4 rfl ?_
    refine z_aload_n F dX6_isKnot_5 rfl ?_
    refine z_mi F rfl 4 rfl (Nat.le_of_ble_eq_true rfl) rfl q1484 dX6_isKnot_6 ?_
    refine z_ieq (hk) ?_
    refine z_icmp_ge F (tgt := 16) dX6_isKnot_9 (by decide) (fun c_9 => ?_) (fun c_9 => ?_)
    · have e : knB kn s = false := by unfold knB; simp only [decide_eq_false_iff_not]; exact fun q => absurd q.2 (Int32.not_lt.mpr c_9)
      refine z_iconst F (nI 0) dX6_isKnot_16 rfl ?_
      exact z_zret F E rfl rfl dX6_isKnot_17 (by omega) (by omega) (⟨by rw [e]; rfl, rfl⟩)
    · have e : knB kn s = true := by unfold knB; simp only [decide_eq_true_eq]; exact ⟨c_1, Int32.not_le.mp c_9⟩
      refine z_iconst F (nI 1) dX6_isKnot_12 rfl ?_
      refine z_goto F (tgt := 17) dX6_isKnot_13 (by decide) ?_
      exact z_zret F E rfl rfl dX6_isKnot_17 (by omega) (by omega) (⟨by rw [e]; rfl, rfl⟩)
theorem c_joins (F0 : Nat → Int32) (G : Nat → Int64) (A : Nat → Nat → Int32) (B : Nat → Nat → Int64) (a b : Nat) (ha : a < 24) (hb : b < 24) : zCtr yX6_joins cX6_joins 3 none 0 0 0 [zr 1 0, zi (nI a), zi (nI b)] [zH, zG F0 G A B] (fun r w => r = none ∧ w = [zH, zG F0 G (fA A 6 (jn (A 6) a b)) B]) zNx := by
  refine z_start (by decide) [some (zr 1 0), some (zi (nI a)), some (zi (nI b))] rfl (fun _ => Nat.le_of_ble_eq_true rfl) (fun _ => rfl) (fun X F E hno hin => ?_)
  refine z_aload_n F dX6_joins_0 rfl ?_
  refine z_ma F rfl 6 rfl (Nat.le_of_ble_eq_true rfl) rfl q1486 dX6_joins_1 ?_
  refine z_iload_n F dX6_joins_4 rfl ?_
  refine z_dup2 F dX6_joins_5 rfl rfl ?_
  refine z_ialdGN F rfl rfl (Nat.le_of_ble_eq_true rfl) (by omega) rfl dX6_joins_6 ?_
  refine z_iconst F (nI 1) dX6_joins_7 rfl ?_
  refine z_iload_n F dX6_joins_8 rfl ?_
  refine z_ishlB F dX6_joins_9 ?_
  refine z_ior F dX6_joins_10 ?_
  refine z_iastGN F rfl rfl (Nat.le_of_ble_eq_true rfl) (by omega) dX6_joins_11 ?_
  refine z_weq (w' := [_, _]) rfl ?_
  refine z_aload_n F dX6_joins_12 rfl ?_
  refine z_ma F rfl 6 rfl (Nat.le_of_ble_eq_true rfl) rfl q1486 dX6_joins_13 ?_
  refine z_iload_n F dX6_joins_16 rfl ?_
  refine z_dup2 F dX6_joins_17 rfl rfl ?_
  refine z_ialdGN F rfl rfl (Nat.le_of_ble_eq_true rfl) (by omega) rfl dX6_joins_18 ?_
  refine z_iconst F (nI 1) dX6_joins_19 rfl ?_
  refine z_iload_n F dX6_joins_20 rfl ?_
  refine z_ishlB F dX6_joins_21 ?_
  refine z_ior F dX6_joins_22 ?_
  refine z_iastGN F rfl rfl (Nat.le_of_ble_eq_true rfl) (by omega) dX6_joins_23 ?_
  refine z_weq (w' := [_, _]) rfl ?_
  exact z_vret F E rfl dX6_joins_24 (by omega) (by omega) (⟨rfl, by rw [zup2_jn]⟩)
theorem c_parts (F0 : Nat → Int32) (G : Nat → Int64) (A : Nat → Nat → Int32) (B : Nat → Nat → Int64) (a b : Nat) (ha : a < 24) (hb : b < 24) : zCtr yX6_parts cX6_parts 3 none 0 0 0 [zr 1 0, zi (nI a), zi (nI b)] [zH, zG F0 G A B] (fun r w => r = none ∧ w = [zH, zG F0 G (fA A 6 (pt (A 6) a b)) B]) zNx := by
  refine z_start (by decide) [some (zr 1 0), some (zi (nI a)), some (zi (nI b))] rfl (fun _ => Nat.le_of_ble_eq_true rfl) (fun _ => rfl) (fun X F E hno hin => ?_)
  refine z_aload_n F dX6_parts_0 rfl ?_
  refine z_ma F rfl 6 rfl (Nat.le_of_ble_eq_true rfl) rfl q1486 dX6_parts_1 ?_
  refine z_iload_n F dX6_parts_4 rfl ?_
  refine z_dup2 F dX6_parts_5 rfl rfl ?_
  refine z_ialdGN F rfl rfl (Nat.le_of_ble_eq_true rfl) (by omega) rfl dX6_parts_6 ?_
  refine z_iconst F (nI 1) dX6_parts_7 rfl ?_
  refine z_iload_n F dX6_parts_8 rfl ?_
  refine z_ishlB F dX6_parts_9 ?_
  refine z_iconst F (-1) dX6_parts_10 rfl ?_
  refine z_ixor F dX6_parts_11 ?_
  refine z_iand F dX6_parts_12 ?_
  refine z_iastGN F rfl rfl (Nat.le_of_ble_eq_true rfl) (by omega) dX6_parts_13 ?_
  refine z_weq (w' := [_, _]) rfl ?_
  refine z_aload_n F dX6_parts_14 rfl ?_
  refine z_ma F rfl 6 rfl (Nat.le_of_ble_eq_true rfl) rfl q1486 dX6_parts_15 ?_
  refine z_iload_n F dX6_parts_18 rfl ?_
  refine z_dup2 F dX6_parts_19 rfl rfl ?_
  refine z_ialdGN F rfl rfl (Nat.le_of_ble_eq_true rfl) (by omega) rfl dX6_parts_20 ?_
  refine z_iconst F (nI 1) dX6_parts_21 rfl ?_
  refine z_iload_n F dX6_parts_22 rfl ?_
  refine z_ishlB F dX6_parts_23 ?_
  refine z_iconst F (-1) dX6_parts_24 rfl ?_
  refine z_ixor F dX6_parts_25 ?_
  refine z_iand F dX6_parts_26 ?_
  refine z_iastGN F rfl rfl (Nat.le_of_ble_eq_true rfl) (by omega) dX6_parts_27 ?_
  refine z_weq (w' := [_, _]) rfl ?_
  exact z_vret F E rfl dX6_parts_28 (by omega) (by omega) (⟨rfl, by rw [zup2_pt]⟩)
theorem c_bits (x : Int32) : zCtr yX6_bits cX6_bits 3 (some .int) 0 0 0 [zi x] [zH] (fun r w => r = some (zi (nI (pc32 x))) ∧ w = [zH]) zNx := by
  refine z_start (by decide) [some (zi x), none, none] rfl (fun _ => Nat.le_of_ble_eq_true rfl) (fun _ => rfl) (fun X F E hno hin => ?_)
  have loop : ∀ (m n : Nat) (y : Int32), pc32 y < m → n + pc32 y = pc32 x → Z X [some (zi x), some (zi (nI n)), some (zi y)] [] [zH] 0 0 4 := by
    intro m
    induction m with
    | zero => intro n y hm; omega
    | succ m ih =>
      intro n y hm he
      refine z_iload_n F dX6_bits_4 rfl ?_
      refine z_if_eq F (tgt := 20) dX6_bits_5 (by decide) (fun c_5 => ?_) (fun c_5 => ?_)
      · have e : pc32 y = 0 := by rw [c_5]; rfl
        have e2 : n = pc32 x := by omega
        subst e2
        refine z_iload_n F dX6_bits_20 rfl ?_
        exact z_iret F E rfl dX6_bits_21 (by omega) (by omega) (⟨rfl, rfl⟩)
      · refine z_iincN F 1 dX6_bits_8 rfl rfl ?_
        refine z_leq (L' := [_, _, _]) rfl ?_
        refine z_iload_n F dX6_bits_11 rfl ?_
        refine z_iload_n F dX6_bits_12 rfl ?_
        refine z_iconst F (nI 1) dX6_bits_13 rfl ?_
        refine z_isub F dX6_bits_14 ?_
        refine z_iand F dX6_bits_15 ?_
        refine z_istore_n F dX6_bits_16 (Nat.le_of_ble_eq_true rfl) ?_
        refine z_leq (L' := [_, _, _]) rfl ?_
        refine z_goto F (tgt := 4) dX6_bits_17 (by decide) ?_
        have e := pc32_low c_5
        exact ih _ _ (by omega) (by omega)
  refine z_iconst F (nI 0) dX6_bits_0 rfl ?_
  refine z_istore_n F dX6_bits_1 (Nat.le_of_ble_eq_true rfl) ?_
  refine z_leq (L' := [_, _, _]) rfl ?_
  refine z_iload_n F dX6_bits_2 rfl ?_
  refine z_istore_n F dX6_bits_3 (Nat.le_of_ble_eq_true rfl) ?_
  refine z_leq (L' := [_, _, _]) rfl ?_
  exact loop (pc32 x + 1) 0 x (by omega) (by omega)
end C31
