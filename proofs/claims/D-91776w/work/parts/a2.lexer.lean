/-! read: the reader's tokens (gena2.py) -/
section CA2
abbrev eRd (z a k b e u m : Nat) (vn : zV) (c : Nat) : zE := zO 7 [zi (nI z), zr 23 0, zi (nI a), zi (nI k), zi (nI b), zi (nI e), zi (nI u), zi (nI m), vn, zi (nI c), zr 1 0]
abbrev rWA (t : Nat) (fp : Int32) (T : Nat → Int32) (g : Nat → Int32) (z a k b e u m c : Nat) : List zE := [zH, xO t fp, zAi 3 400 T, zH, zH, zH, zH, zH, zH, zH, zH, zH, zH, zH, zH, zH, zH, zH, zH, zH, zH, zH, eRd z a k b e u m zn c, zAi 0 12 g]
abbrev rWB (t : Nat) (fp : Int32) (T : Nat → Int32) (n d : Nat) (f g : Nat → Int32) (z a k b e u m c : Nat) : List zE := [zH, xO t fp, zAi 3 400 T, zH, zH, zH, zH, zH, zH, zH, zH, zH, zH, zH, zH, zH, zH, zH, zH, zH, zH, zH, eRd z a k b e u m (zr 24 0) c, zAi 0 12 g, eNet 25 (nI n) (nI d), zAi 0 24 f]
def rhV (tb : Nat → Nat) (z a : Nat) : Int32 := if a < z then nI (tb a) else -1
theorem rhV_p {tb : Nat → Nat} {z a : Nat} (h : a < z) : rhV tb z a = nI (tb a) := if_pos h
theorem rhV_n {tb : Nat → Nat} {z a : Nat} (h : ¬ a < z) : rhV tb z a = -1 := if_neg h
theorem inB_L {tb : Nat → Nat} {z a : Nat} (htb : ∀ i, tb i < 256) : inB (rhV tb z a) (nI 97) (nI 122) = (decide (a < z) && isL (tb a)) := by
  by_cases h : a < z
  · rw [rhV_p h, decide_eq_true h, Bool.true_and]
    exact (by decide +kernel : ∀ x, x < 256 → inB (nI x) (nI 97) (nI 122) = isL x) _ (htb a)
  · rw [rhV_n h, decide_eq_false h, Bool.false_and]
    decide +kernel
theorem inB_D {tb : Nat → Nat} {z a : Nat} (htb : ∀ i, tb i < 256) : inB (rhV tb z a) (nI 48) (nI 57) = (decide (a < z) && isD (tb a)) := by
  by_cases h : a < z
  · rw [rhV_p h, decide_eq_true h, Bool.true_and]
    exact (by decide +kernel : ∀ x, x < 256 → inB (nI x) (nI 48) (nI 57) = isD x) _ (htb a)
  · rw [rhV_n h, decide_eq_false h, Bool.false_and]
    decide +kernel
def nuV (tb : Nat → Nat) (z b u : Nat) : Nat := if kd tb z b = 2 then nvd tb b (en tb z b - b) else u
abbrev tBy (T : Nat → Int32) (tb : Nat → Nat) (z : Nat) : Prop := ∀ i, i < z → byB (T i) (nI (tb i))
theorem tBy_L {T : Nat → Int32} {tb : Nat → Nat} {z i : Nat} (h : tBy T tb z) (hi : i < z) (hl : isL (tb i) = true) : T i = nI (tb i) := by
  unfold isL at hl
  rw [decide_eq_true_eq] at hl
  rw [(h i hi).1]
  exact (by decide +kernel : ∀ x, x < 128 → bsg (nI x) = nI x) _ (by omega)

theorem c_hereA (t : Nat) (fp : Int32) (T : Nat → Int32) (g : Nat → Int32) (z a k b e u m c : Nat) (tb : Nat → Nat) (hz : z ≤ 400) (hT : tBy T tb z) (ha : a ≤ z) : zCtr yX7_here cX7_here 1 (some .int) 0 0 0 [zr 22 0] (rWA t fp T g z a k b e u m c) (fun r w => r = some (zi (rhV tb z a)) ∧ w = (rWA t fp T g z a k b e u m c)) zNx := by
  refine z_start (by decide) [some (zr 22 0)] rfl (fun _ => Nat.le_of_ble_eq_true rfl) (fun _ => rfl) (fun X F E hno hin => ?_)
  refine z_aload_n F dX7_here_0 rfl ?_
  refine z_get F zC7 (f := 2) rfl (Nat.le_of_ble_eq_true rfl) q564 rfl dX7_here_1 ?_
  refine z_aload_n F dX7_here_4 rfl ?_
  refine z_get F zC7 (f := 0) rfl (Nat.le_of_ble_eq_true rfl) q562 rfl dX7_here_5 ?_
  refine z_icmp_geN F (by omega) (by omega) (tgt := 30) dX7_here_8 (by decide) (fun c_8 => ?_) (fun c_8 => ?_)
  · refine z_iconst F (-1) dX7_here_30 rfl ?_
    exact z_iret F E rfl dX7_here_31 (by omega) (by omega) (⟨by rw [rhV_n (by omega)], rfl⟩)
  · refine z_aload_n F dX7_here_11 rfl ?_
    refine z_get F zC7 (f := 10) rfl (Nat.le_of_ble_eq_true rfl) q573 rfl dX7_here_12 ?_
    refine z_getN F zC1 (f := 1) rfl (Nat.le_of_ble_eq_true rfl) q314 rfl dX7_here_15 ?_
    refine z_aload_n F dX7_here_18 rfl ?_
    refine z_get F zC7 (f := 2) rfl (Nat.le_of_ble_eq_true rfl) q564 rfl dX7_here_19 ?_
    refine z_baldN F rfl (Nat.le_of_ble_eq_true rfl) (by omega) rfl dX7_here_22 ?_
    refine z_sipush F (nI 255) dX7_here_23 rfl ?_
    refine z_iand F dX7_here_26 ?_
    refine z_ieq ((hT a (by omega)).2.symm) ?_
    refine z_goto F (tgt := 31) dX7_here_27 (by decide) ?_
    exact z_iret F E rfl dX7_here_31 (by omega) (by omega) (⟨by rw [rhV_p (by omega)], rfl⟩)
theorem c_isLetA (t : Nat) (fp : Int32) (T : Nat → Int32) (g : Nat → Int32) (z a k b e u m c : Nat) (tb : Nat → Nat) (hz : z ≤ 400) (hT : tBy T tb z) (htb : ∀ i, tb i < 256) (ha : a ≤ z) : zCtr yX7_isLetter cX7_isLetter 1 (some .boolean) 1 0 0 [zr 22 0] (rWA t fp T g z a k b e u m c) (fun r w => r = some (zi (bI (decide (a < z) && isL (tb a)))) ∧ w = (rWA t fp T g z a k b e u m c)) zNx := by
  refine z_start (by decide) [some (zr 22 0)] rfl (fun _ => Nat.le_of_ble_eq_true rfl) (fun _ => rfl) (fun X F E hno hin => ?_)
  refine z_aload_n F dX7_isLetter_0 rfl ?_
  refine z_callV F (c_hereA t fp T g z a k b e u m c tb hz hT ha) 0 rfl (lw_V q605 q607 qs3 q125 q608) (by decide +kernel) ⟨Nat.le_of_ble_eq_true rfl, Nat.le_of_ble_eq_true rfl⟩ ⟨by omega, by omega⟩ [0, 1, 2, 3, 4, 5, 6, 7, 8, 9, 10, 11, 12, 13, 14, 15, 16, 17, 18, 19, 20, 21, 22, 23] 24 ⟨rfl, rfl, rfl, ⟨Or.inl rfl, Or.inr rfl, Or.inr rfl, Or.inl rfl, Or.inl rfl, Or.inl rfl, Or.inl rfl, Or.inl rfl, Or.inl rfl, Or.inl rfl, Or.inl rfl, Or.inl rfl, Or.inl rfl, Or.inl rfl, Or.inl rfl, Or.inl rfl, Or.inl rfl, Or.inl rfl, Or.inl rfl, Or.inl rfl, Or.inl rfl, Or.inl rfl, Or.inr rfl, Or.inr rfl, trivial⟩⟩ (fun h => nomatch h) (Nat.le_of_ble_eq_true rfl) ⟨⟨Or.inr trivial, Or.inl rfl, Or.inl rfl, Or.inr trivial, Or.inr trivial, Or.inr trivial, Or.inr trivial, Or.inr trivial, Or.inr trivial, Or.inr trivial, Or.inr trivial, Or.inr trivial, Or.inr trivial, Or.inr trivial, Or.inr trivial, Or.inr trivial, Or.inr trivial, Or.inr trivial, Or.inr trivial, Or.inr trivial, Or.inr trivial, Or.inr trivial, Or.inl rfl, Or.inl rfl, trivial⟩, rfl, rfl, rfl, Nat.le_of_ble_eq_true rfl⟩ rfl zC7 rfl rfl dX7_isLetter_1 (fun r_1 w_1 hp => ?_) (fun _ _ h => h.elim)
  obtain ⟨rfl, rfl⟩ := hp
  refine z_weq (w' := [zH, zO _ [zr _ _, zr _ _, zr _ _, zr _ _, zr _ _, zi _, zi _, zr _ _, zr _ _], zAi 3 400 _, zH, zH, zH, zH, zH, zH, zH, zH, zH, zH, zH, zH, zH, zH, zH, zH, zH, zH, zH, zO _ [zi _, zr _ _, zi _, zi _, zi _, zi _, zi _, zi _, zn, zi _, zr _ _], zAi 0 12 _]) rfl ?_
  refine z_seq (S' := zi _ :: _) rfl ?_
  refine z_bipush F (nI 97) dX7_isLetter_4 rfl ?_
  refine z_bipush F (nI 122) dX7_isLetter_6 rfl ?_
  refine z_callSN F (c_in (rhV tb z a) (nI 97) (nI 122)) 3 rfl (lw_meth q351) q109 q613 q350 (by decide +kernel) ⟨Nat.le_of_ble_eq_true rfl, Nat.le_of_ble_eq_true rfl⟩ ⟨by omega, by omega⟩ [0] 24 ⟨rfl, rfl, rfl, ⟨Or.inl rfl, trivial⟩⟩ (fun h => nomatch h) (Nat.le_of_ble_eq_true rfl) ⟨⟨Or.inr trivial, Or.inr rfl, Or.inr trivial, Or.inr trivial, Or.inr trivial, Or.inr trivial, Or.inr trivial, Or.inr trivial, Or.inr trivial, Or.inr trivial, Or.inr trivial, Or.inr trivial, Or.inr trivial, Or.inr trivial, Or.inr trivial, Or.inr trivial, Or.inr trivial, Or.inr trivial, Or.inr trivial, Or.inr trivial, Or.inr trivial, Or.inr trivial, Or.inr rfl, Or.inr trivial, trivial⟩, rfl, rfl, rfl, Nat.le_of_ble_eq_true rfl⟩ rfl rfl dX7_isLetter_8 (fun r_8 w_8 hp => ?_) (fun _ _ h => h.elim)
  obtain ⟨rfl, rfl⟩ := hp
  refine z_weq (w' := [zH, zO _ [zr _ _, zr _ _, zr _ _, zr _ _, zr _ _, zi _, zi _, zr _ _, zr _ _], zAi 3 400 _, zH, zH, zH, zH, zH, zH, zH, zH, zH, zH, zH, zH, zH, zH, zH, zH, zH, zH, zH, zO _ [zi _, zr _ _, zi _, zi _, zi _, zi _, zi _, zi _, zn, zi _, zr _ _], zAi 0 12 _]) rfl ?_
  refine z_seq (S' := zi _ :: _) rfl ?_
  exact z_zret F E rfl (bI_nar _) dX7_isLetter_11 (by omega) (by omega) (⟨by rw [inB_L htb], rfl⟩)
theorem c_isDigA (t : Nat) (fp : Int32) (T : Nat → Int32) (g : Nat → Int32) (z a k b e u m c : Nat) (tb : Nat → Nat) (hz : z ≤ 400) (hT : tBy T tb z) (htb : ∀ i, tb i < 256) (ha : a ≤ z) : zCtr yX7_isDigit cX7_isDigit 1 (some .boolean) 1 0 0 [zr 22 0] (rWA t fp T g z a k b e u m c) (fun r w => r = some (zi (bI (decide (a < z) && isD (tb a)))) ∧ w = (rWA t fp T g z a k b e u m c)) zNx := by
  refine z_start (by decide) [some (zr 22 0)] rfl (fun _ => Nat.le_of_ble_eq_true rfl) (fun _ => rfl) (fun X F E hno hin => ?_)
  refine z_aload_n F dX7_isDigit_0 rfl ?_
  refine z_callV F (c_hereA t fp T g z a k b e u m c tb hz hT ha) 0 rfl (lw_V q605 q607 qs3 q125 q608) (by decide +kernel) ⟨Nat.le_of_ble_eq_true rfl, Nat.le_of_ble_eq_true rfl⟩ ⟨by omega, by omega⟩ [0, 1, 2, 3, 4, 5, 6, 7, 8, 9, 10, 11, 12, 13, 14, 15, 16, 17, 18, 19, 20, 21, 22, 23] 24 ⟨rfl, rfl, rfl, ⟨Or.inl rfl, Or.inr rfl, Or.inr rfl, Or.inl rfl, Or.inl rfl, Or.inl rfl, Or.inl rfl, Or.inl rfl, Or.inl rfl, Or.inl rfl, Or.inl rfl, Or.inl rfl, Or.inl rfl, Or.inl rfl, Or.inl rfl, Or.inl rfl, Or.inl rfl, Or.inl rfl, Or.inl rfl, Or.inl rfl, Or.inl rfl, Or.inl rfl, Or.inr rfl, Or.inr rfl, trivial⟩⟩ (fun h => nomatch h) (Nat.le_of_ble_eq_true rfl) ⟨⟨Or.inr trivial, Or.inl rfl, Or.inl rfl, Or.inr trivial, Or.inr trivial, Or.inr trivial, Or.inr trivial, Or.inr trivial, Or.inr trivial, Or.inr trivial, Or.inr trivial, Or.inr trivial, Or.inr trivial, Or.inr trivial, Or.inr trivial, Or.inr trivial, Or.inr trivial, Or.inr trivial, Or.inr trivial, Or.inr trivial, Or.inr trivial, Or.inr trivial, Or.inl rfl, Or.inl rfl, trivial⟩, rfl, rfl, rfl, Nat.le_of_ble_eq_true rfl⟩ rfl zC7 rfl rfl dX7_isDigit_1 (fun r_1 w_1 hp => ?_) (fun _ _ h => h.elim)
  obtain ⟨rfl, rfl⟩ := hp
  refine z_weq (w' := [zH, zO _ [zr _ _, zr _ _, zr _ _, zr _ _, zr _ _, zi _, zi _, zr _ _, zr _ _], zAi 3 400 _, zH, zH, zH, zH, zH, zH, zH, zH, zH, zH, zH, zH, zH, zH, zH, zH, zH, zH, zH, zO _ [zi _, zr _ _, zi _, zi _, zi _, zi _, zi _, zi _, zn, zi _, zr _ _], zAi 0 12 _]) rfl ?_
  refine z_seq (S' := zi _ :: _) rfl ?_
  refine z_bipush F (nI 48) dX7_isDigit_4 rfl ?_
  refine z_bipush F (nI 57) dX7_isDigit_6 rfl ?_
  refine z_callSN F (c_in (rhV tb z a) (nI 48) (nI 57)) 3 rfl (lw_meth q351) q109 q613 q350 (by decide +kernel) ⟨Nat.le_of_ble_eq_true rfl, Nat.le_of_ble_eq_true rfl⟩ ⟨by omega, by omega⟩ [0] 24 ⟨rfl, rfl, rfl, ⟨Or.inl rfl, trivial⟩⟩ (fun h => nomatch h) (Nat.le_of_ble_eq_true rfl) ⟨⟨Or.inr trivial, Or.inr rfl, Or.inr trivial, Or.inr trivial, Or.inr trivial, Or.inr trivial, Or.inr trivial, Or.inr trivial, Or.inr trivial, Or.inr trivial, Or.inr trivial, Or.inr trivial, Or.inr trivial, Or.inr trivial, Or.inr trivial, Or.inr trivial, Or.inr trivial, Or.inr trivial, Or.inr trivial, Or.inr trivial, Or.inr trivial, Or.inr trivial, Or.inr rfl, Or.inr trivial, trivial⟩, rfl, rfl, rfl, Nat.le_of_ble_eq_true rfl⟩ rfl rfl dX7_isDigit_8 (fun r_8 w_8 hp => ?_) (fun _ _ h => h.elim)
  obtain ⟨rfl, rfl⟩ := hp
  refine z_weq (w' := [zH, zO _ [zr _ _, zr _ _, zr _ _, zr _ _, zr _ _, zi _, zi _, zr _ _, zr _ _], zAi 3 400 _, zH, zH, zH, zH, zH, zH, zH, zH, zH, zH, zH, zH, zH, zH, zH, zH, zH, zH, zH, zO _ [zi _, zr _ _, zi _, zi _, zi _, zi _, zi _, zi _, zn, zi _, zr _ _], zAi 0 12 _]) rfl ?_
  refine z_seq (S' := zi _ :: _) rfl ?_
  exact z_zret F E rfl (bI_nar _) dX7_isDigit_11 (by omega) (by omega) (⟨by rw [inB_D htb], rfl⟩)
theorem c_nextA (t : Nat) (fp : Int32) (T : Nat → Int32) (g : Nat → Int32) (z p k0 b0 e0 u m c : Nat) (tb : Nat → Nat) (hz : z ≤ 400) (hT : tBy T tb z) (htb : ∀ i, tb i < 256) (hp : p ≤ z) : zCtr yX7_next cX7_next 1 none 3 0 0 [zr 22 0] (rWA t fp T g z p k0 b0 e0 u m c) (fun r w => r = none ∧ w = (rWA t fp T g z (en tb z (sk tb z p)) (kd tb z (sk tb z p)) (sk tb z p) (en tb z (sk tb z p)) (nuV tb z (sk tb z p) u) m c)) zNx := by
  refine z_start (by decide) [some (zr 22 0)] rfl (fun _ => Nat.le_of_ble_eq_true rfl) (fun _ => rfl) (fun X F E hno hin => ?_)
  have hb1 := sk_ge tb z p
  have hb2 := hb1.2 hp
  generalize hb : sk tb z p = b at hb1 hb2 E
  have he1 := en_ge tb z b
  have he2 := he1.2 hb2
  have fin : ∀ (q k u' : Nat), q = en tb z b → k = kd tb z b → u' = nuV tb z b u → Z X [some (zr 22 0)] [] (rWA t fp T g z q k b e0 u' m c) 0 0 183 := by
    intro q k u' hq hk hu
    subst hq
    subst hk
    subst hu
    refine z_aload_n F dX7_next_183 rfl ?_
    refine z_aload_n F dX7_next_184 rfl ?_
    refine z_get F zC7 (f := 2) rfl (Nat.le_of_ble_eq_true rfl) q564 rfl dX7_next_185 ?_
    refine z_put F zC7 (f := 5) rfl (Nat.le_of_ble_eq_true rfl) q568 rfl (fun _ => rfl) (fun _ => rfl) (Nat.le_of_ble_eq_true rfl) dX7_next_188 ?_
    refine z_weq (w' := [_, _, _, _, _, _, _, _, _, _, _, _, _, _, _, _, _, _, _, _, _, _, zO _ [_, _, _, _, _, _, _, _, _, _, _], _]) rfl ?_
    exact z_vret F E rfl dX7_next_191 (by omega) (by omega) (⟨rfl, rfl⟩)
  have let_ : isL (tb b) = true → b < z → ∀ (x q : Nat), z - q < x → b ≤ q → q ≤ z → rn (fun k => isL (tb k)) z q = en tb z b → Z X [some (zr 22 0)] [] (rWA t fp T g z q k0 b e0 u m c) 0 0 62 := by
    intro hL hbz x
    induction x with
    | zero => intro q hx; omega
    | succ x ih =>
      intro q hx hbq hqz hrn
      have hk1 : kd tb z b = 1 := by unfold kd; rw [if_neg (by omega), if_pos hL]
      refine z_aload_n F dX7_next_62 rfl ?_
      refine z_callV F (c_isLetA t fp T g z q k0 b e0 u m c tb hz hT htb hqz) 0 rfl (lw_V q609 q611 qs4 q125 q612) (by decide +kernel) ⟨Nat.le_of_ble_eq_true rfl, Nat.le_of_ble_eq_true rfl⟩ ⟨by omega, by omega⟩ [0, 1, 2, 3, 4, 5, 6, 7, 8, 9, 10, 11, 12, 13, 14, 15, 16, 17, 18, 19, 20, 21, 22, 23] 24 ⟨rfl, rfl, rfl, ⟨Or.inl rfl, Or.inr rfl, Or.inr rfl, Or.inl rfl, Or.inl rfl, Or.inl rfl, Or.inl rfl, Or.inl rfl, Or.inl rfl, Or.inl rfl, Or.inl rfl, Or.inl rfl, Or.inl rfl, Or.inl rfl, Or.inl rfl, Or.inl rfl, Or.inl rfl, Or.inl rfl, Or.inl rfl, Or.inl rfl, Or.inl rfl, Or.inl rfl, Or.inr rfl, Or.inr rfl, trivial⟩⟩ (fun h => nomatch h) (Nat.le_of_ble_eq_true rfl) ⟨⟨Or.inr trivial, Or.inl rfl, Or.inl rfl, Or.inr trivial, Or.inr trivial, Or.inr trivial, Or.inr trivial, Or.inr trivial, Or.inr trivial, Or.inr trivial, Or.inr trivial, Or.inr trivial, Or.inr trivial, Or.inr trivial, Or.inr trivial, Or.inr trivial, Or.inr trivial, Or.inr trivial, Or.inr trivial, Or.inr trivial, Or.inr trivial, Or.inr trivial, Or.inl rfl, Or.inl rfl, trivial⟩, rfl, rfl, rfl, Nat.le_of_ble_eq_true rfl⟩ rfl zC7 rfl rfl dX7_next_63 (fun r_63 w_63 hp => ?_) (fun _ _ h => h.elim)
      obtain ⟨rfl, rfl⟩ := hp
      refine z_weq (w' := [zH, zO _ [zr _ _, zr _ _, zr _ _, zr _ _, zr _ _, zi _, zi _, zr _ _, zr _ _], zAi 3 400 _, zH, zH, zH, zH, zH, zH, zH, zH, zH, zH, zH, zH, zH, zH, zH, zH, zH, zH, zH, zO _ [zi _, zr _ _, zi _, zi _, zi _, zi _, zi _, zi _, zn, zi _, zr _ _], zAi 0 12 _]) rfl ?_
      refine z_seq (S' := zi _ :: _) rfl ?_
      refine z_if_eqB F (tgt := 82) dX7_next_66 (by decide) (fun c_66 => ?_) (fun c_66 => ?_)
      · refine z_aload_n F dX7_next_82 rfl ?_
        refine z_iconst F (nI 1) dX7_next_83 rfl ?_
        refine z_put F zC7 (f := 3) rfl (Nat.le_of_ble_eq_true rfl) q565 rfl (fun _ => rfl) (fun _ => rfl) (Nat.le_of_ble_eq_true rfl) dX7_next_84 ?_
        refine z_weq (w' := [_, _, _, _, _, _, _, _, _, _, _, _, _, _, _, _, _, _, _, _, _, _, zO _ [_, _, _, _, _, _, _, _, _, _, _], _]) rfl ?_
        refine z_goto F (tgt := 183) dX7_next_87 (by decide) ?_
        have hend : ¬ (q < z ∧ isL (tb q) = true) := fun w => by
          rw [decide_eq_true w.1, w.2] at c_66; cases c_66
        have eq_ : q = en tb z b := by rw [← hrn]; exact (rn_stop (p := fun k => isL (tb k)) hend).symm
        exact fin q 1 u eq_ hk1.symm (by rw [nuV, if_neg (by omega)])
      · have hq : q < z ∧ isL (tb q) = true := by rw [Bool.and_eq_true, decide_eq_true_eq] at c_66; exact c_66
        refine z_aload_n F dX7_next_69 rfl ?_
        refine z_dup F dX7_next_70 rfl ?_
        refine z_get F zC7 (f := 2) rfl (Nat.le_of_ble_eq_true rfl) q564 rfl dX7_next_71 ?_
        refine z_iconst F (nI 1) dX7_next_74 rfl ?_
        refine z_iaddN F dX7_next_75 ?_
        refine z_put F zC7 (f := 2) rfl (Nat.le_of_ble_eq_true rfl) q564 rfl (fun _ => rfl) (fun _ => rfl) (Nat.le_of_ble_eq_true rfl) dX7_next_76 ?_
        refine z_weq (w' := [_, _, _, _, _, _, _, _, _, _, _, _, _, _, _, _, _, _, _, _, _, _, zO _ [_, _, _, _, _, _, _, _, _, _, _], _]) rfl ?_
        refine z_goto F (tgt := 62) dX7_next_79 (by decide) ?_
        exact ih (q + 1) (by omega) (by omega) (by omega) (by rw [← hrn]; exact (rn_step (p := fun k => isL (tb k)) hq.1 hq.2).symm)
  have dig_ : isL (tb b) = false → isD (tb b) = true → b < z → ∀ (x q : Nat), z - q < x → b ≤ q → q ≤ z → rn (fun k => isD (tb k)) z q = en tb z b → Z X [some (zr 22 0)] [] (rWA t fp T g z q k0 b e0 (nvd tb b (q - b)) m c) 0 0 102 := by
    intro hL hD hbz x
    induction x with
    | zero => intro q hx; omega
    | succ x ih =>
      intro q hx hbq hqz hrn
      have hk2 : kd tb z b = 2 := by unfold kd; rw [if_neg (by omega), if_neg (by rw [hL]; decide), if_pos hD]
      have hnv := nvd_le (tb := tb) (b := b) (q - b)
      have h256 := htb q
      refine z_aload_n F dX7_next_102 rfl ?_
      refine z_callV F (c_isDigA t fp T g z q k0 b e0 _ m c tb hz hT htb hqz) 0 rfl (lw_V q614 q616 qs5 q125 q617) (by decide +kernel) ⟨Nat.le_of_ble_eq_true rfl, Nat.le_of_ble_eq_true rfl⟩ ⟨by omega, by omega⟩ [0, 1, 2, 3, 4, 5, 6, 7, 8, 9, 10, 11, 12, 13, 14, 15, 16, 17, 18, 19, 20, 21, 22, 23] 24 ⟨rfl, rfl, rfl, ⟨Or.inl rfl, Or.inr rfl, Or.inr rfl, Or.inl rfl, Or.inl rfl, Or.inl rfl, Or.inl rfl, Or.inl rfl, Or.inl rfl, Or.inl rfl, Or.inl rfl, Or.inl rfl, Or.inl rfl, Or.inl rfl, Or.inl rfl, Or.inl rfl, Or.inl rfl, Or.inl rfl, Or.inl rfl, Or.inl rfl, Or.inl rfl, Or.inl rfl, Or.inr rfl, Or.inr rfl, trivial⟩⟩ (fun h => nomatch h) (Nat.le_of_ble_eq_true rfl) ⟨⟨Or.inr trivial, Or.inl rfl, Or.inl rfl, Or.inr trivial, Or.inr trivial, Or.inr trivial, Or.inr trivial, Or.inr trivial, Or.inr trivial, Or.inr trivial, Or.inr trivial, Or.inr trivial, Or.inr trivial, Or.inr trivial, Or.inr trivial, Or.inr trivial, Or.inr trivial, Or.inr trivial, Or.inr trivial, Or.inr trivial, Or.inr trivial, Or.inr trivial, Or.inl rfl, Or.inl rfl, trivial⟩, rfl, rfl, rfl, Nat.le_of_ble_eq_true rfl⟩ rfl zC7 rfl rfl dX7_next_103 (fun r_103 w_103 hp => ?_) (fun _ _ h => h.elim)
      obtain ⟨rfl, rfl⟩ := hp
      refine z_weq (w' := [zH, zO _ [zr _ _, zr _ _, zr _ _, zr _ _, zr _ _, zi _, zi _, zr _ _, zr _ _], zAi 3 400 _, zH, zH, zH, zH, zH, zH, zH, zH, zH, zH, zH, zH, zH, zH, zH, zH, zH, zH, zH, zO _ [zi _, zr _ _, zi _, zi _, zi _, zi _, zi _, zi _, zn, zi _, zr _ _], zAi 0 12 _]) rfl ?_
      refine z_seq (S' := zi _ :: _) rfl ?_
      refine z_if_eqB F (tgt := 147) dX7_next_106 (by decide) (fun c_106 => ?_) (fun c_106 => ?_)
      · refine z_aload_n F dX7_next_147 rfl ?_
        refine z_iconst F (nI 2) dX7_next_148 rfl ?_
        refine z_put F zC7 (f := 3) rfl (Nat.le_of_ble_eq_true rfl) q565 rfl (fun _ => rfl) (fun _ => rfl) (Nat.le_of_ble_eq_true rfl) dX7_next_149 ?_
        refine z_weq (w' := [_, _, _, _, _, _, _, _, _, _, _, _, _, _, _, _, _, _, _, _, _, _, zO _ [_, _, _, _, _, _, _, _, _, _, _], _]) rfl ?_
        refine z_goto F (tgt := 183) dX7_next_152 (by decide) ?_
        have hend : ¬ (q < z ∧ isD (tb q) = true) := fun w => by
          rw [decide_eq_true w.1, w.2] at c_106; cases c_106
        have eq_ : q = en tb z b := by rw [← hrn]; exact (rn_stop (p := fun k => isD (tb k)) hend).symm
        exact fin q 2 _ eq_ hk2.symm (by rw [nuV, if_pos hk2, ← eq_])
      · have hq : q < z ∧ isD (tb q) = true := by rw [Bool.and_eq_true, decide_eq_true_eq] at c_106; exact c_106
        have hl2 : 48 ≤ tb q ∧ tb q ≤ 57 := by have hl := hq.2; unfold isD at hl; rw [decide_eq_true_eq] at hl; exact hl
        refine z_aload_n F dX7_next_109 rfl ?_
        refine z_sipush F (nI 10000) dX7_next_110 rfl ?_
        refine z_bipush F (nI 10) dX7_next_113 rfl ?_
        refine z_aload_n F dX7_next_115 rfl ?_
        refine z_get F zC7 (f := 6) rfl (Nat.le_of_ble_eq_true rfl) q569 rfl dX7_next_116 ?_
        refine z_imulN F dX7_next_119 ?_
        refine z_aload_n F dX7_next_120 rfl ?_
        refine z_callV F (c_hereA t fp T g z q k0 b e0 _ m c tb hz hT hqz) 0 rfl (lw_V q605 q607 qs3 q125 q608) (by decide +kernel) ⟨Nat.le_of_ble_eq_true rfl, Nat.le_of_ble_eq_true rfl⟩ ⟨by omega, by omega⟩ [0, 1, 2, 3, 4, 5, 6, 7, 8, 9, 10, 11, 12, 13, 14, 15, 16, 17, 18, 19, 20, 21, 22, 23] 24 ⟨rfl, rfl, rfl, ⟨Or.inl rfl, Or.inr rfl, Or.inr rfl, Or.inl rfl, Or.inl rfl, Or.inl rfl, Or.inl rfl, Or.inl rfl, Or.inl rfl, Or.inl rfl, Or.inl rfl, Or.inl rfl, Or.inl rfl, Or.inl rfl, Or.inl rfl, Or.inl rfl, Or.inl rfl, Or.inl rfl, Or.inl rfl, Or.inl rfl, Or.inl rfl, Or.inl rfl, Or.inr rfl, Or.inr rfl, trivial⟩⟩ (fun h => nomatch h) (Nat.le_of_ble_eq_true rfl) ⟨⟨Or.inr trivial, Or.inl rfl, Or.inl rfl, Or.inr trivial, Or.inr trivial, Or.inr trivial, Or.inr trivial, Or.inr trivial, Or.inr trivial, Or.inr trivial, Or.inr trivial, Or.inr trivial, Or.inr trivial, Or.inr trivial, Or.inr trivial, Or.inr trivial, Or.inr trivial, Or.inr trivial, Or.inr trivial, Or.inr trivial, Or.inr trivial, Or.inr trivial, Or.inl rfl, Or.inl rfl, trivial⟩, rfl, rfl, rfl, Nat.le_of_ble_eq_true rfl⟩ rfl zC7 rfl rfl dX7_next_121 (fun r_121 w_121 hp => ?_) (fun _ _ h => h.elim)
        obtain ⟨rfl, rfl⟩ := hp
        rw [rhV_p hq.1]
        refine z_weq (w' := [zH, zO _ [zr _ _, zr _ _, zr _ _, zr _ _, zr _ _, zi _, zi _, zr _ _, zr _ _], zAi 3 400 _, zH, zH, zH, zH, zH, zH, zH, zH, zH, zH, zH, zH, zH, zH, zH, zH, zH, zH, zH, zO _ [zi _, zr _ _, zi _, zi _, zi _, zi _, zi _, zi _, zn, zi _, zr _ _], zAi 0 12 _]) rfl ?_
        refine z_seq (S' := zi _ :: _) rfl ?_
        refine z_iaddN F dX7_next_124 ?_
        refine z_bipush F (nI 48) dX7_next_125 rfl ?_
        refine z_isubN F (by omega) dX7_next_127 ?_
        refine z_mmin F q618 dX7_next_128 (Nat.le_of_ble_eq_true rfl) rfl (Nat.le_of_ble_eq_true rfl) ⟨by omega, by omega⟩ ?_
        refine z_ieq (mminN (by omega) (by omega)) ?_
        refine z_put F zC7 (f := 6) rfl (Nat.le_of_ble_eq_true rfl) q569 rfl (fun _ => rfl) (fun _ => rfl) (Nat.le_of_ble_eq_true rfl) dX7_next_131 ?_
        refine z_weq (w' := [_, _, _, _, _, _, _, _, _, _, _, _, _, _, _, _, _, _, _, _, _, _, zO _ [_, _, _, _, _, _, _, _, _, _, _], _]) rfl ?_
        refine z_aload_n F dX7_next_134 rfl ?_
        refine z_dup F dX7_next_135 rfl ?_
        refine z_get F zC7 (f := 2) rfl (Nat.le_of_ble_eq_true rfl) q564 rfl dX7_next_136 ?_
        refine z_iconst F (nI 1) dX7_next_139 rfl ?_
        refine z_iaddN F dX7_next_140 ?_
        refine z_put F zC7 (f := 2) rfl (Nat.le_of_ble_eq_true rfl) q564 rfl (fun _ => rfl) (fun _ => rfl) (Nat.le_of_ble_eq_true rfl) dX7_next_141 ?_
        refine z_weq (w' := [_, _, _, _, _, _, _, _, _, _, _, _, _, _, _, _, _, _, _, _, _, _, zO _ [_, _, _, _, _, _, _, _, _, _, _], _]) rfl ?_
        refine z_goto F (tgt := 102) dX7_next_144 (by decide) ?_
        have hx := ih (q + 1) (by omega) (by omega) (by omega) (by rw [← hrn]; exact (rn_step (p := fun k => isD (tb k)) hq.1 hq.2).symm)
        rw [show q + 1 - b = (q - b) + 1 by omega, nvd, show b + (q - b) = q by omega, show 10 * nvd tb b (q - b) + (tb q - 48) = 10 * nvd tb b (q - b) + tb q - 48 by omega] at hx
        exact hx
  have at31 : Z X [some (zr 22 0)] [] (rWA t fp T g z b k0 b0 e0 u m c) 0 0 31 := by
    have h256 := htb b
    by_cases hbz : b < z
    · skip
      refine z_aload_n F dX7_next_31 rfl ?_
      refine z_aload_n F dX7_next_32 rfl ?_
      refine z_get F zC7 (f := 2) rfl (Nat.le_of_ble_eq_true rfl) q564 rfl dX7_next_33 ?_
      refine z_put F zC7 (f := 4) rfl (Nat.le_of_ble_eq_true rfl) q566 rfl (fun _ => rfl) (fun _ => rfl) (Nat.le_of_ble_eq_true rfl) dX7_next_36 ?_
      refine z_weq (w' := [_, _, _, _, _, _, _, _, _, _, _, _, _, _, _, _, _, _, _, _, _, _, zO _ [_, _, _, _, _, _, _, _, _, _, _], _]) rfl ?_
      refine z_aload_n F dX7_next_39 rfl ?_
      refine z_callV F (c_hereA t fp T g z b k0 b e0 u m c tb hz hT hb2) 0 rfl (lw_V q605 q607 qs3 q125 q608) (by decide +kernel) ⟨Nat.le_of_ble_eq_true rfl, Nat.le_of_ble_eq_true rfl⟩ ⟨by omega, by omega⟩ [0, 1, 2, 3, 4, 5, 6, 7, 8, 9, 10, 11, 12, 13, 14, 15, 16, 17, 18, 19, 20, 21, 22, 23] 24 ⟨rfl, rfl, rfl, ⟨Or.inl rfl, Or.inr rfl, Or.inr rfl, Or.inl rfl, Or.inl rfl, Or.inl rfl, Or.inl rfl, Or.inl rfl, Or.inl rfl, Or.inl rfl, Or.inl rfl, Or.inl rfl, Or.inl rfl, Or.inl rfl, Or.inl rfl, Or.inl rfl, Or.inl rfl, Or.inl rfl, Or.inl rfl, Or.inl rfl, Or.inl rfl, Or.inl rfl, Or.inr rfl, Or.inr rfl, trivial⟩⟩ (fun h => nomatch h) (Nat.le_of_ble_eq_true rfl) ⟨⟨Or.inr trivial, Or.inl rfl, Or.inl rfl, Or.inr trivial, Or.inr trivial, Or.inr trivial, Or.inr trivial, Or.inr trivial, Or.inr trivial, Or.inr trivial, Or.inr trivial, Or.inr trivial, Or.inr trivial, Or.inr trivial, Or.inr trivial, Or.inr trivial, Or.inr trivial, Or.inr trivial, Or.inr trivial, Or.inr trivial, Or.inr trivial, Or.inr trivial, Or.inl rfl, Or.inl rfl, trivial⟩, rfl, rfl, rfl, Nat.le_of_ble_eq_true rfl⟩ rfl zC7 rfl rfl dX7_next_40 (fun r_40 w_40 hp => ?_) (fun _ _ h => h.elim)
      obtain ⟨rfl, rfl⟩ := hp
      rw [rhV_p hbz]
      refine z_weq (w' := [zH, zO _ [zr _ _, zr _ _, zr _ _, zr _ _, zr _ _, zi _, zi _, zr _ _, zr _ _], zAi 3 400 _, zH, zH, zH, zH, zH, zH, zH, zH, zH, zH, zH, zH, zH, zH, zH, zH, zH, zH, zH, zO _ [zi _, zr _ _, zi _, zi _, zi _, zi _, zi _, zi _, zn, zi _, zr _ _], zAi 0 12 _]) rfl ?_
      refine z_seq (S' := zi _ :: _) rfl ?_
      refine z_iconst F (-1) dX7_next_43 rfl ?_
      refine z_icmp_ne F (tgt := 55) dX7_next_44 (by decide) (fun c_44 => ?_) (fun c_44 => ?_)
      · refine z_aload_n F dX7_next_55 rfl ?_
        refine z_callV F (c_isLetA t fp T g z b k0 b e0 u m c tb hz hT htb hb2) 0 rfl (lw_V q609 q611 qs4 q125 q612) (by decide +kernel) ⟨Nat.le_of_ble_eq_true rfl, Nat.le_of_ble_eq_true rfl⟩ ⟨by omega, by omega⟩ [0, 1, 2, 3, 4, 5, 6, 7, 8, 9, 10, 11, 12, 13, 14, 15, 16, 17, 18, 19, 20, 21, 22, 23] 24 ⟨rfl, rfl, rfl, ⟨Or.inl rfl, Or.inr rfl, Or.inr rfl, Or.inl rfl, Or.inl rfl, Or.inl rfl, Or.inl rfl, Or.inl rfl, Or.inl rfl, Or.inl rfl, Or.inl rfl, Or.inl rfl, Or.inl rfl, Or.inl rfl, Or.inl rfl, Or.inl rfl, Or.inl rfl, Or.inl rfl, Or.inl rfl, Or.inl rfl, Or.inl rfl, Or.inl rfl, Or.inr rfl, Or.inr rfl, trivial⟩⟩ (fun h => nomatch h) (Nat.le_of_ble_eq_true rfl) ⟨⟨Or.inr trivial, Or.inl rfl, Or.inl rfl, Or.inr trivial, Or.inr trivial, Or.inr trivial, Or.inr trivial, Or.inr trivial, Or.inr trivial, Or.inr trivial, Or.inr trivial, Or.inr trivial, Or.inr trivial, Or.inr trivial, Or.inr trivial, Or.inr trivial, Or.inr trivial, Or.inr trivial, Or.inr trivial, Or.inr trivial, Or.inr trivial, Or.inr trivial, Or.inl rfl, Or.inl rfl, trivial⟩, rfl, rfl, rfl, Nat.le_of_ble_eq_true rfl⟩ rfl zC7 rfl rfl dX7_next_56 (fun r_56 w_56 hp => ?_) (fun _ _ h => h.elim)
        obtain ⟨rfl, rfl⟩ := hp
        rw [decide_eq_true hbz, Bool.true_and]
        refine z_weq (w' := [zH, zO _ [zr _ _, zr _ _, zr _ _, zr _ _, zr _ _, zi _, zi _, zr _ _, zr _ _], zAi 3 400 _, zH, zH, zH, zH, zH, zH, zH, zH, zH, zH, zH, zH, zH, zH, zH, zH, zH, zH, zH, zO _ [zi _, zr _ _, zi _, zi _, zi _, zi _, zi _, zi _, zn, zi _, zr _ _], zAi 0 12 _]) rfl ?_
        refine z_seq (S' := zi _ :: _) rfl ?_
        refine z_if_eqB F (tgt := 90) dX7_next_59 (by decide) (fun c_59 => ?_) (fun c_59 => ?_)
        · refine z_aload_n F dX7_next_90 rfl ?_
          refine z_callV F (c_isDigA t fp T g z b k0 b e0 u m c tb hz hT htb hb2) 0 rfl (lw_V q614 q616 qs5 q125 q617) (by decide +kernel) ⟨Nat.le_of_ble_eq_true rfl, Nat.le_of_ble_eq_true rfl⟩ ⟨by omega, by omega⟩ [0, 1, 2, 3, 4, 5, 6, 7, 8, 9, 10, 11, 12, 13, 14, 15, 16, 17, 18, 19, 20, 21, 22, 23] 24 ⟨rfl, rfl, rfl, ⟨Or.inl rfl, Or.inr rfl, Or.inr rfl, Or.inl rfl, Or.inl rfl, Or.inl rfl, Or.inl rfl, Or.inl rfl, Or.inl rfl, Or.inl rfl, Or.inl rfl, Or.inl rfl, Or.inl rfl, Or.inl rfl, Or.inl rfl, Or.inl rfl, Or.inl rfl, Or.inl rfl, Or.inl rfl, Or.inl rfl, Or.inl rfl, Or.inl rfl, Or.inr rfl, Or.inr rfl, trivial⟩⟩ (fun h => nomatch h) (Nat.le_of_ble_eq_true rfl) ⟨⟨Or.inr trivial, Or.inl rfl, Or.inl rfl, Or.inr trivial, Or.inr trivial, Or.inr trivial, Or.inr trivial, Or.inr trivial, Or.inr trivial, Or.inr trivial, Or.inr trivial, Or.inr trivial, Or.inr trivial, Or.inr trivial, Or.inr trivial, Or.inr trivial, Or.inr trivial, Or.inr trivial, Or.inr trivial, Or.inr trivial, Or.inr trivial, Or.inr trivial, Or.inl rfl, Or.inl rfl, trivial⟩, rfl, rfl, rfl, Nat.le_of_ble_eq_true rfl⟩ rfl zC7 rfl rfl dX7_next_91 (fun r_91 w_91 hp => ?_) (fun _ _ h => h.elim)
          obtain ⟨rfl, rfl⟩ := hp
          rw [decide_eq_true hbz, Bool.true_and]
          refine z_weq (w' := [zH, zO _ [zr _ _, zr _ _, zr _ _, zr _ _, zr _ _, zi _, zi _, zr _ _, zr _ _], zAi 3 400 _, zH, zH, zH, zH, zH, zH, zH, zH, zH, zH, zH, zH, zH, zH, zH, zH, zH, zH, zH, zO _ [zi _, zr _ _, zi _, zi _, zi _, zi _, zi _, zi _, zn, zi _, zr _ _], zAi 0 12 _]) rfl ?_
          refine z_seq (S' := zi _ :: _) rfl ?_
          refine z_if_eqB F (tgt := 155) dX7_next_94 (by decide) (fun c_94 => ?_) (fun c_94 => ?_)
          · have e1 : en tb z b = b + 1 := by unfold en; rw [if_neg (by omega), if_neg (by rw [c_59]; decide), if_neg (by rw [c_94]; decide)]
            refine z_aload_n F dX7_next_155 rfl ?_
            refine z_aload_n F dX7_next_156 rfl ?_
            refine z_callV F (c_hereA t fp T g z b k0 b e0 u m c tb hz hT hb2) 0 rfl (lw_V q605 q607 qs3 q125 q608) (by decide +kernel) ⟨Nat.le_of_ble_eq_true rfl, Nat.le_of_ble_eq_true rfl⟩ ⟨by omega, by omega⟩ [0, 1, 2, 3, 4, 5, 6, 7, 8, 9, 10, 11, 12, 13, 14, 15, 16, 17, 18, 19, 20, 21, 22, 23] 24 ⟨rfl, rfl, rfl, ⟨Or.inl rfl, Or.inr rfl, Or.inr rfl, Or.inl rfl, Or.inl rfl, Or.inl rfl, Or.inl rfl, Or.inl rfl, Or.inl rfl, Or.inl rfl, Or.inl rfl, Or.inl rfl, Or.inl rfl, Or.inl rfl, Or.inl rfl, Or.inl rfl, Or.inl rfl, Or.inl rfl, Or.inl rfl, Or.inl rfl, Or.inl rfl, Or.inl rfl, Or.inr rfl, Or.inr rfl, trivial⟩⟩ (fun h => nomatch h) (Nat.le_of_ble_eq_true rfl) ⟨⟨Or.inr trivial, Or.inl rfl, Or.inl rfl, Or.inr trivial, Or.inr trivial, Or.inr trivial, Or.inr trivial, Or.inr trivial, Or.inr trivial, Or.inr trivial, Or.inr trivial, Or.inr trivial, Or.inr trivial, Or.inr trivial, Or.inr trivial, Or.inr trivial, Or.inr trivial, Or.inr trivial, Or.inr trivial, Or.inr trivial, Or.inr trivial, Or.inr trivial, Or.inl rfl, Or.inl rfl, trivial⟩, rfl, rfl, rfl, Nat.le_of_ble_eq_true rfl⟩ rfl zC7 rfl rfl dX7_next_157 (fun r_157 w_157 hp => ?_) (fun _ _ h => h.elim)
            obtain ⟨rfl, rfl⟩ := hp
            rw [rhV_p hbz]
            refine z_weq (w' := [zH, zO _ [zr _ _, zr _ _, zr _ _, zr _ _, zr _ _, zi _, zi _, zr _ _, zr _ _], zAi 3 400 _, zH, zH, zH, zH, zH, zH, zH, zH, zH, zH, zH, zH, zH, zH, zH, zH, zH, zH, zH, zO _ [zi _, zr _ _, zi _, zi _, zi _, zi _, zi _, zi _, zn, zi _, zr _ _], zAi 0 12 _]) rfl ?_
            refine z_seq (S' := zi _ :: _) rfl ?_
            refine z_bipush F (nI 59) dX7_next_160 rfl ?_
            refine z_icmp_neN F (by omega) (by omega) (tgt := 169) dX7_next_162 (by decide) (fun c_162 => ?_) (fun c_162 => ?_)
            · refine z_iconst F (nI 4) dX7_next_169 rfl ?_
              refine z_put F zC7 (f := 3) rfl (Nat.le_of_ble_eq_true rfl) q565 rfl (fun _ => rfl) (fun _ => rfl) (Nat.le_of_ble_eq_true rfl) dX7_next_170 ?_
              refine z_weq (w' := [_, _, _, _, _, _, _, _, _, _, _, _, _, _, _, _, _, _, _, _, _, _, zO _ [_, _, _, _, _, _, _, _, _, _, _], _]) rfl ?_
              refine z_aload_n F dX7_next_173 rfl ?_
              refine z_dup F dX7_next_174 rfl ?_
              refine z_get F zC7 (f := 2) rfl (Nat.le_of_ble_eq_true rfl) q564 rfl dX7_next_175 ?_
              refine z_iconst F (nI 1) dX7_next_178 rfl ?_
              refine z_iaddN F dX7_next_179 ?_
              refine z_put F zC7 (f := 2) rfl (Nat.le_of_ble_eq_true rfl) q564 rfl (fun _ => rfl) (fun _ => rfl) (Nat.le_of_ble_eq_true rfl) dX7_next_180 ?_
              refine z_weq (w' := [_, _, _, _, _, _, _, _, _, _, _, _, _, _, _, _, _, _, _, _, _, _, zO _ [_, _, _, _, _, _, _, _, _, _, _], _]) rfl ?_
              have e2 : kd tb z b = 4 := by unfold kd; rw [if_neg (by omega), if_neg (by rw [c_59]; decide), if_neg (by rw [c_94]; decide), if_neg c_162]
              exact fin (b + 1) 4 u e1.symm e2.symm (by rw [nuV, if_neg (by omega)])
            · refine z_iconst F (nI 3) dX7_next_165 rfl ?_
              refine z_goto F (tgt := 170) dX7_next_166 (by decide) ?_
              refine z_put F zC7 (f := 3) rfl (Nat.le_of_ble_eq_true rfl) q565 rfl (fun _ => rfl) (fun _ => rfl) (Nat.le_of_ble_eq_true rfl) dX7_next_170 ?_
              refine z_weq (w' := [_, _, _, _, _, _, _, _, _, _, _, _, _, _, _, _, _, _, _, _, _, _, zO _ [_, _, _, _, _, _, _, _, _, _, _], _]) rfl ?_
              refine z_aload_n F dX7_next_173 rfl ?_
              refine z_dup F dX7_next_174 rfl ?_
              refine z_get F zC7 (f := 2) rfl (Nat.le_of_ble_eq_true rfl) q564 rfl dX7_next_175 ?_
              refine z_iconst F (nI 1) dX7_next_178 rfl ?_
              refine z_iaddN F dX7_next_179 ?_
              refine z_put F zC7 (f := 2) rfl (Nat.le_of_ble_eq_true rfl) q564 rfl (fun _ => rfl) (fun _ => rfl) (Nat.le_of_ble_eq_true rfl) dX7_next_180 ?_
              refine z_weq (w' := [_, _, _, _, _, _, _, _, _, _, _, _, _, _, _, _, _, _, _, _, _, _, zO _ [_, _, _, _, _, _, _, _, _, _, _], _]) rfl ?_
              have e2 : kd tb z b = 3 := by unfold kd; rw [if_neg (by omega), if_neg (by rw [c_59]; decide), if_neg (by rw [c_94]; decide), if_pos c_162]
              exact fin (b + 1) 3 u e1.symm e2.symm (by rw [nuV, if_neg (by omega)])
          · refine z_aload_n F dX7_next_97 rfl ?_
            refine z_iconst F (nI 0) dX7_next_98 rfl ?_
            refine z_put F zC7 (f := 6) rfl (Nat.le_of_ble_eq_true rfl) q569 rfl (fun _ => rfl) (fun _ => rfl) (Nat.le_of_ble_eq_true rfl) dX7_next_99 ?_
            refine z_weq (w' := [_, _, _, _, _, _, _, _, _, _, _, _, _, _, _, _, _, _, _, _, _, _, zO _ [_, _, _, _, _, _, _, _, _, _, _], _]) rfl ?_
            have hen : rn (fun k => isD (tb k)) z b = en tb z b := by unfold en; rw [if_neg (by omega), if_neg (by rw [c_59]; decide), if_pos c_94]
            have hx := dig_ c_59 c_94 hbz (z + 1) b (by omega) (by omega) (by omega) hen
            rw [Nat.sub_self] at hx
            exact hx
        · have hen : rn (fun k => isL (tb k)) z b = en tb z b := by unfold en; rw [if_neg (by omega), if_pos c_59]
          exact let_ c_59 hbz (z + 1) b (by omega) (by omega) (by omega) hen
      · exact absurd c_44 (nI_ne (by omega))
    · have e1 : en tb z b = b := by unfold en; rw [if_pos (by omega)]
      have e2 : kd tb z b = 0 := by unfold kd; rw [if_pos (by omega)]
      refine z_aload_n F dX7_next_31 rfl ?_
      refine z_aload_n F dX7_next_32 rfl ?_
      refine z_get F zC7 (f := 2) rfl (Nat.le_of_ble_eq_true rfl) q564 rfl dX7_next_33 ?_
      refine z_put F zC7 (f := 4) rfl (Nat.le_of_ble_eq_true rfl) q566 rfl (fun _ => rfl) (fun _ => rfl) (Nat.le_of_ble_eq_true rfl) dX7_next_36 ?_
      refine z_weq (w' := [_, _, _, _, _, _, _, _, _, _, _, _, _, _, _, _, _, _, _, _, _, _, zO _ [_, _, _, _, _, _, _, _, _, _, _], _]) rfl ?_
      refine z_aload_n F dX7_next_39 rfl ?_
      refine z_callV F (c_hereA t fp T g z b k0 b e0 u m c tb hz hT hb2) 0 rfl (lw_V q605 q607 qs3 q125 q608) (by decide +kernel) ⟨Nat.le_of_ble_eq_true rfl, Nat.le_of_ble_eq_true rfl⟩ ⟨by omega, by omega⟩ [0, 1, 2, 3, 4, 5, 6, 7, 8, 9, 10, 11, 12, 13, 14, 15, 16, 17, 18, 19, 20, 21, 22, 23] 24 ⟨rfl, rfl, rfl, ⟨Or.inl rfl, Or.inr rfl, Or.inr rfl, Or.inl rfl, Or.inl rfl, Or.inl rfl, Or.inl rfl, Or.inl rfl, Or.inl rfl, Or.inl rfl, Or.inl rfl, Or.inl rfl, Or.inl rfl, Or.inl rfl, Or.inl rfl, Or.inl rfl, Or.inl rfl, Or.inl rfl, Or.inl rfl, Or.inl rfl, Or.inl rfl, Or.inl rfl, Or.inr rfl, Or.inr rfl, trivial⟩⟩ (fun h => nomatch h) (Nat.le_of_ble_eq_true rfl) ⟨⟨Or.inr trivial, Or.inl rfl, Or.inl rfl, Or.inr trivial, Or.inr trivial, Or.inr trivial, Or.inr trivial, Or.inr trivial, Or.inr trivial, Or.inr trivial, Or.inr trivial, Or.inr trivial, Or.inr trivial, Or.inr trivial, Or.inr trivial, Or.inr trivial, Or.inr trivial, Or.inr trivial, Or.inr trivial, Or.inr trivial, Or.inr trivial, Or.inr trivial, Or.inl rfl, Or.inl rfl, trivial⟩, rfl, rfl, rfl, Nat.le_of_ble_eq_true rfl⟩ rfl zC7 rfl rfl dX7_next_40 (fun r_40 w_40 hp => ?_) (fun _ _ h => h.elim)
      obtain ⟨rfl, rfl⟩ := hp
      rw [rhV_n hbz]
      refine z_weq (w' := [zH, zO _ [zr _ _, zr _ _, zr _ _, zr _ _, zr _ _, zi _, zi _, zr _ _, zr _ _], zAi 3 400 _, zH, zH, zH, zH, zH, zH, zH, zH, zH, zH, zH, zH, zH, zH, zH, zH, zH, zH, zH, zO _ [zi _, zr _ _, zi _, zi _, zi _, zi _, zi _, zi _, zn, zi _, zr _ _], zAi 0 12 _]) rfl ?_
      refine z_seq (S' := zi _ :: _) rfl ?_
      refine z_iconst F (-1) dX7_next_43 rfl ?_
      refine z_icmp_ne F (tgt := 55) dX7_next_44 (by decide) (fun c_44 => ?_) (fun c_44 => ?_)
      · exact absurd rfl c_44
      · refine z_aload_n F dX7_next_47 rfl ?_
        refine z_iconst F (nI 0) dX7_next_48 rfl ?_
        refine z_put F zC7 (f := 3) rfl (Nat.le_of_ble_eq_true rfl) q565 rfl (fun _ => rfl) (fun _ => rfl) (Nat.le_of_ble_eq_true rfl) dX7_next_49 ?_
        refine z_weq (w' := [_, _, _, _, _, _, _, _, _, _, _, _, _, _, _, _, _, _, _, _, _, _, zO _ [_, _, _, _, _, _, _, _, _, _, _], _]) rfl ?_
        refine z_goto F (tgt := 183) dX7_next_52 (by decide) ?_
        exact fin b 0 u e1.symm e2.symm (by rw [nuV, if_neg (by omega)])
  have spc : ∀ (x q : Nat), z - q < x → q ≤ z → rn (fun k => isS (tb k)) z q = b → Z X [some (zr 22 0)] [] (rWA t fp T g z q k0 b0 e0 u m c) 0 0 0 := by
    intro x
    induction x with
    | zero => intro q hx; omega
    | succ x ih =>
      intro q hx hqz hrn
      have h256 := htb q
      have stop_ : ¬ (q < z ∧ isS (tb q) = true) → q = b := fun w => by rw [← hrn]; exact (rn_stop (p := fun k => isS (tb k)) w).symm
      have nxt : q < z → isS (tb q) = true → Z X [some (zr 22 0)] [] (rWA t fp T g z q k0 b0 e0 u m c) 0 0 18 := by
        intro hq hs
        refine z_aload_n F dX7_next_18 rfl ?_
        refine z_dup F dX7_next_19 rfl ?_
        refine z_get F zC7 (f := 2) rfl (Nat.le_of_ble_eq_true rfl) q564 rfl dX7_next_20 ?_
        refine z_iconst F (nI 1) dX7_next_23 rfl ?_
        refine z_iaddN F dX7_next_24 ?_
        refine z_put F zC7 (f := 2) rfl (Nat.le_of_ble_eq_true rfl) q564 rfl (fun _ => rfl) (fun _ => rfl) (Nat.le_of_ble_eq_true rfl) dX7_next_25 ?_
        refine z_weq (w' := [_, _, _, _, _, _, _, _, _, _, _, _, _, _, _, _, _, _, _, _, _, _, zO _ [_, _, _, _, _, _, _, _, _, _, _], _]) rfl ?_
        refine z_goto F (tgt := 0) dX7_next_28 (by decide) ?_
        exact ih (q + 1) (by omega) (by omega) (by rw [← hrn]; exact (rn_step (p := fun k => isS (tb k)) hq hs).symm)
      by_cases hq : q < z
      · skip
        refine z_aload_n F dX7_next_0 rfl ?_
        refine z_callV F (c_hereA t fp T g z q k0 b0 e0 u m c tb hz hT hqz) 0 rfl (lw_V q605 q607 qs3 q125 q608) (by decide +kernel) ⟨Nat.le_of_ble_eq_true rfl, Nat.le_of_ble_eq_true rfl⟩ ⟨by omega, by omega⟩ [0, 1, 2, 3, 4, 5, 6, 7, 8, 9, 10, 11, 12, 13, 14, 15, 16, 17, 18, 19, 20, 21, 22, 23] 24 ⟨rfl, rfl, rfl, ⟨Or.inl rfl, Or.inr rfl, Or.inr rfl, Or.inl rfl, Or.inl rfl, Or.inl rfl, Or.inl rfl, Or.inl rfl, Or.inl rfl, Or.inl rfl, Or.inl rfl, Or.inl rfl, Or.inl rfl, Or.inl rfl, Or.inl rfl, Or.inl rfl, Or.inl rfl, Or.inl rfl, Or.inl rfl, Or.inl rfl, Or.inl rfl, Or.inl rfl, Or.inr rfl, Or.inr rfl, trivial⟩⟩ (fun h => nomatch h) (Nat.le_of_ble_eq_true rfl) ⟨⟨Or.inr trivial, Or.inl rfl, Or.inl rfl, Or.inr trivial, Or.inr trivial, Or.inr trivial, Or.inr trivial, Or.inr trivial, Or.inr trivial, Or.inr trivial, Or.inr trivial, Or.inr trivial, Or.inr trivial, Or.inr trivial, Or.inr trivial, Or.inr trivial, Or.inr trivial, Or.inr trivial, Or.inr trivial, Or.inr trivial, Or.inr trivial, Or.inr trivial, Or.inl rfl, Or.inl rfl, trivial⟩, rfl, rfl, rfl, Nat.le_of_ble_eq_true rfl⟩ rfl zC7 rfl rfl dX7_next_1 (fun r_1 w_1 hp => ?_) (fun _ _ h => h.elim)
        obtain ⟨rfl, rfl⟩ := hp
        rw [rhV_p hq]
        refine z_weq (w' := [zH, zO _ [zr _ _, zr _ _, zr _ _, zr _ _, zr _ _, zi _, zi _, zr _ _, zr _ _], zAi 3 400 _, zH, zH, zH, zH, zH, zH, zH, zH, zH, zH, zH, zH, zH, zH, zH, zH, zH, zH, zH, zO _ [zi _, zr _ _, zi _, zi _, zi _, zi _, zi _, zi _, zn, zi _, zr _ _], zAi 0 12 _]) rfl ?_
        refine z_seq (S' := zi _ :: _) rfl ?_
        refine z_bipush F (nI 32) dX7_next_4 rfl ?_
        refine z_icmp_eqN F (by omega) (by omega) (tgt := 18) dX7_next_6 (by decide) (fun c_6 => ?_) (fun c_6 => ?_)
        · exact nxt hq (by unfold isS; rw [c_6]; rfl)
        · refine z_aload_n F dX7_next_9 rfl ?_
          refine z_callV F (c_hereA t fp T g z q k0 b0 e0 u m c tb hz hT hqz) 0 rfl (lw_V q605 q607 qs3 q125 q608) (by decide +kernel) ⟨Nat.le_of_ble_eq_true rfl, Nat.le_of_ble_eq_true rfl⟩ ⟨by omega, by omega⟩ [0, 1, 2, 3, 4, 5, 6, 7, 8, 9, 10, 11, 12, 13, 14, 15, 16, 17, 18, 19, 20, 21, 22, 23] 24 ⟨rfl, rfl, rfl, ⟨Or.inl rfl, Or.inr rfl, Or.inr rfl, Or.inl rfl, Or.inl rfl, Or.inl rfl, Or.inl rfl, Or.inl rfl, Or.inl rfl, Or.inl rfl, Or.inl rfl, Or.inl rfl, Or.inl rfl, Or.inl rfl, Or.inl rfl, Or.inl rfl, Or.inl rfl, Or.inl rfl, Or.inl rfl, Or.inl rfl, Or.inl rfl, Or.inl rfl, Or.inr rfl, Or.inr rfl, trivial⟩⟩ (fun h => nomatch h) (Nat.le_of_ble_eq_true rfl) ⟨⟨Or.inr trivial, Or.inl rfl, Or.inl rfl, Or.inr trivial, Or.inr trivial, Or.inr trivial, Or.inr trivial, Or.inr trivial, Or.inr trivial, Or.inr trivial, Or.inr trivial, Or.inr trivial, Or.inr trivial, Or.inr trivial, Or.inr trivial, Or.inr trivial, Or.inr trivial, Or.inr trivial, Or.inr trivial, Or.inr trivial, Or.inr trivial, Or.inr trivial, Or.inl rfl, Or.inl rfl, trivial⟩, rfl, rfl, rfl, Nat.le_of_ble_eq_true rfl⟩ rfl zC7 rfl rfl dX7_next_10 (fun r_10 w_10 hp => ?_) (fun _ _ h => h.elim)
          obtain ⟨rfl, rfl⟩ := hp
          rw [rhV_p hq]
          refine z_weq (w' := [zH, zO _ [zr _ _, zr _ _, zr _ _, zr _ _, zr _ _, zi _, zi _, zr _ _, zr _ _], zAi 3 400 _, zH, zH, zH, zH, zH, zH, zH, zH, zH, zH, zH, zH, zH, zH, zH, zH, zH, zH, zH, zO _ [zi _, zr _ _, zi _, zi _, zi _, zi _, zi _, zi _, zn, zi _, zr _ _], zAi 0 12 _]) rfl ?_
          refine z_seq (S' := zi _ :: _) rfl ?_
          refine z_bipush F (nI 10) dX7_next_13 rfl ?_
          refine z_icmp_neN F (by omega) (by omega) (tgt := 31) dX7_next_15 (by decide) (fun c_15 => ?_) (fun c_15 => ?_)
          · have hns : ¬ (q < z ∧ isS (tb q) = true) := fun w => by
              have := w.2
              unfold isS at this
              rw [decide_eq_false c_6, decide_eq_false c_15] at this
              cases this
            have eq_ := stop_ hns
            subst eq_
            exact at31
          · exact nxt hq (by unfold isS; rw [c_15]; rfl)
      · have eq_ := stop_ (fun w => hq w.1)
        refine z_aload_n F dX7_next_0 rfl ?_
        refine z_callV F (c_hereA t fp T g z q k0 b0 e0 u m c tb hz hT hqz) 0 rfl (lw_V q605 q607 qs3 q125 q608) (by decide +kernel) ⟨Nat.le_of_ble_eq_true rfl, Nat.le_of_ble_eq_true rfl⟩ ⟨by omega, by omega⟩ [0, 1, 2, 3, 4, 5, 6, 7, 8, 9, 10, 11, 12, 13, 14, 15, 16, 17, 18, 19, 20, 21, 22, 23] 24 ⟨rfl, rfl, rfl, ⟨Or.inl rfl, Or.inr rfl, Or.inr rfl, Or.inl rfl, Or.inl rfl, Or.inl rfl, Or.inl rfl, Or.inl rfl, Or.inl rfl, Or.inl rfl, Or.inl rfl, Or.inl rfl, Or.inl rfl, Or.inl rfl, Or.inl rfl, Or.inl rfl, Or.inl rfl, Or.inl rfl, Or.inl rfl, Or.inl rfl, Or.inl rfl, Or.inl rfl, Or.inr rfl, Or.inr rfl, trivial⟩⟩ (fun h => nomatch h) (Nat.le_of_ble_eq_true rfl) ⟨⟨Or.inr trivial, Or.inl rfl, Or.inl rfl, Or.inr trivial, Or.inr trivial, Or.inr trivial, Or.inr trivial, Or.inr trivial, Or.inr trivial, Or.inr trivial, Or.inr trivial, Or.inr trivial, Or.inr trivial, Or.inr trivial, Or.inr trivial, Or.inr trivial, Or.inr trivial, Or.inr trivial, Or.inr trivial, Or.inr trivial, Or.inr trivial, Or.inr trivial, Or.inl rfl, Or.inl rfl, trivial⟩, rfl, rfl, rfl, Nat.le_of_ble_eq_true rfl⟩ rfl zC7 rfl rfl dX7_next_1 (fun r_1 w_1 hp => ?_) (fun _ _ h => h.elim)
        obtain ⟨rfl, rfl⟩ := hp
        rw [rhV_n hq]
        refine z_weq (w' := [zH, zO _ [zr _ _, zr _ _, zr _ _, zr _ _, zr _ _, zi _, zi _, zr _ _, zr _ _], zAi 3 400 _, zH, zH, zH, zH, zH, zH, zH, zH, zH, zH, zH, zH, zH, zH, zH, zH, zH, zH, zH, zO _ [zi _, zr _ _, zi _, zi _, zi _, zi _, zi _, zi _, zn, zi _, zr _ _], zAi 0 12 _]) rfl ?_
        refine z_seq (S' := zi _ :: _) rfl ?_
        refine z_bipush F (nI 32) dX7_next_4 rfl ?_
        refine z_icmp_eq F (tgt := 18) dX7_next_6 (by decide) (fun c_6 => ?_) (fun c_6 => ?_)
        · exact absurd c_6 (by decide)
        · refine z_aload_n F dX7_next_9 rfl ?_
          refine z_callV F (c_hereA t fp T g z q k0 b0 e0 u m c tb hz hT hqz) 0 rfl (lw_V q605 q607 qs3 q125 q608) (by decide +kernel) ⟨Nat.le_of_ble_eq_true rfl, Nat.le_of_ble_eq_true rfl⟩ ⟨by omega, by omega⟩ [0, 1, 2, 3, 4, 5, 6, 7, 8, 9, 10, 11, 12, 13, 14, 15, 16, 17, 18, 19, 20, 21, 22, 23] 24 ⟨rfl, rfl, rfl, ⟨Or.inl rfl, Or.inr rfl, Or.inr rfl, Or.inl rfl, Or.inl rfl, Or.inl rfl, Or.inl rfl, Or.inl rfl, Or.inl rfl, Or.inl rfl, Or.inl rfl, Or.inl rfl, Or.inl rfl, Or.inl rfl, Or.inl rfl, Or.inl rfl, Or.inl rfl, Or.inl rfl, Or.inl rfl, Or.inl rfl, Or.inl rfl, Or.inl rfl, Or.inr rfl, Or.inr rfl, trivial⟩⟩ (fun h => nomatch h) (Nat.le_of_ble_eq_true rfl) ⟨⟨Or.inr trivial, Or.inl rfl, Or.inl rfl, Or.inr trivial, Or.inr trivial, Or.inr trivial, Or.inr trivial, Or.inr trivial, Or.inr trivial, Or.inr trivial, Or.inr trivial, Or.inr trivial, Or.inr trivial, Or.inr trivial, Or.inr trivial, Or.inr trivial, Or.inr trivial, Or.inr trivial, Or.inr trivial, Or.inr trivial, Or.inr trivial, Or.inr trivial, Or.inl rfl, Or.inl rfl, trivial⟩, rfl, rfl, rfl, Nat.le_of_ble_eq_true rfl⟩ rfl zC7 rfl rfl dX7_next_10 (fun r_10 w_10 hp => ?_) (fun _ _ h => h.elim)
          obtain ⟨rfl, rfl⟩ := hp
          rw [rhV_n hq]
          refine z_weq (w' := [zH, zO _ [zr _ _, zr _ _, zr _ _, zr _ _, zr _ _, zi _, zi _, zr _ _, zr _ _], zAi 3 400 _, zH, zH, zH, zH, zH, zH, zH, zH, zH, zH, zH, zH, zH, zH, zH, zH, zH, zH, zH, zO _ [zi _, zr _ _, zi _, zi _, zi _, zi _, zi _, zi _, zn, zi _, zr _ _], zAi 0 12 _]) rfl ?_
          refine z_seq (S' := zi _ :: _) rfl ?_
          refine z_bipush F (nI 10) dX7_next_13 rfl ?_
          refine z_icmp_ne F (tgt := 31) dX7_next_15 (by decide) (fun c_15 => ?_) (fun c_15 => ?_)
          · subst eq_
            exact at31
          · exact absurd c_15 (by decide)
  exact spc (z + 1) p (by omega) hp hb
theorem c_isA (Dg : va_G) (t : Nat) (fp : Int32) (T : Nat → Int32) (g : Nat → Int32) (z b u m c i : Nat) (tb : Nat → Nat) (hz : z ≤ 400) (hT : tBy T tb z) (hb : b ≤ z) (hi : i < 7) : zCtrD Dg yX7_is cX7_is 3 (some .boolean) 4 0 0 [zr 22 0, zq (Dg.2 1002 (ksI i))] (rWA t fp T g z (en tb z b) (kd tb z b) b (en tb z b) u m c) (fun r w => r = some (zi (bI (isWb tb z b i))) ∧ w = (rWA t fp T g z (en tb z b) (kd tb z b) b (en tb z b) u m c)) zNx := by
  refine z_startD (by decide) [some (zr 22 0), some (zq (Dg.2 1002 (ksI i))), none] rfl (fun _ => Nat.le_of_ble_eq_true rfl) (fun _ => rfl) (fun X hD F E hno hin => ?_)
  subst hD
  have hO := (F.con.2.2.2.2.2.2.2.2.1.1 (ksI i) (ksI_lt hi)).1
  have h6 := kwL_6 i hi
  have hk5 := kd_lt tb z b
  have he := en_ge tb z b
  have he2 := he.2 hb
  have hno : ¬ isW tb z b i → isWb tb z b i = false := fun w => isWb_f.mpr w
  have loop : kd tb z b = 1 → en tb z b - b = kwL i → ∀ (x j : Nat), kwL i - j < x → j ≤ kwL i → (∀ q, q < j → tb (b + q) = kwW i q) → Z X [some (zr 22 0), some (zq (X.2.2.1.2 1002 (ksI i))), some (zi (nI j))] [] (rWA t fp T g z (en tb z b) (kd tb z b) b (en tb z b) u m c) 0 0 28 := by
    intro hk hl x
    induction x with
    | zero => intro j hx; omega
    | succ x ih =>
      intro j hx hj hall_
      have hlt : j < kwL i → kwW i j < 128 := fun w => ks_lt i hi j (by omega)
      have hti : j < kwL i → T (b + j) = nI (tb (b + j)) := fun w => tBy_L hT (by omega) ((tk_L hk).2.2.2 j (by omega))
      have ht1 : j < kwL i → tb (b + j) ≤ 122 := fun w => by
        have := (tk_L hk).2.2.2 j (by omega)
        unfold isL at this
        rw [decide_eq_true_eq] at this
        omega
      refine z_iload_n F dX7_is_28 rfl ?_
      refine z_aloadQ_n F dX7_is_29 rfl ?_
      refine z_callVR F (c_JstrLen _ i hi) 0 rfl (lw_V q630 q631 q632 q127 q633) (by decide +kernel) ⟨Nat.le_of_ble_eq_true rfl, Nat.le_of_ble_eq_true rfl⟩ ⟨by omega, by omega⟩ [0] 24 ⟨rfl, rfl, rfl, ⟨Or.inl rfl, trivial⟩⟩ (fun h => nomatch h) (Nat.le_of_ble_eq_true rfl) ⟨⟨Or.inr trivial, Or.inr rfl, Or.inr trivial, Or.inr trivial, Or.inr trivial, Or.inr trivial, Or.inr trivial, Or.inr trivial, Or.inr trivial, Or.inr trivial, Or.inr trivial, Or.inr trivial, Or.inr trivial, Or.inr trivial, Or.inr trivial, Or.inr trivial, Or.inr trivial, Or.inr trivial, Or.inr trivial, Or.inr trivial, Or.inr trivial, Or.inr trivial, Or.inr rfl, Or.inr trivial, trivial⟩, rfl, rfl, rfl, Nat.le_of_ble_eq_true rfl⟩ rfl (hO) rfl dX7_is_30 (fun r_30 w_30 hp => ?_) (fun _ _ h => h.elim)
      obtain ⟨rfl, rfl⟩ := hp
      refine z_weq (w' := [zH, zO _ [zr _ _, zr _ _, zr _ _, zr _ _, zr _ _, zi _, zi _, zr _ _, zr _ _], zAi 3 400 _, zH, zH, zH, zH, zH, zH, zH, zH, zH, zH, zH, zH, zH, zH, zH, zH, zH, zH, zH, zO _ [zi _, zr _ _, zi _, zi _, zi _, zi _, zi _, zi _, zn, zi _, zr _ _], zAi 0 12 _]) rfl ?_
      refine z_seq (S' := zi _ :: _) rfl ?_
      refine z_icmp_geN F (by omega) (by omega) (tgt := 66) dX7_is_33 (by decide) (fun c_33 => ?_) (fun c_33 => ?_)
      · refine z_iconstB F true dX7_is_66 rfl ?_
        exact z_zret F E rfl (bI_nar _) dX7_is_67 (by omega) (by omega) (⟨by rw [isWb_t.mpr ⟨hk, hl, fun q hq => hall_ q (by omega)⟩], rfl⟩)
      · have hc := hlt (by omega)
        have ht2 := ht1 (by omega)
        refine z_aloadQ_n F dX7_is_36 rfl ?_
        refine z_iload_n F dX7_is_37 rfl ?_
        refine z_callVR F (c_JcharAt _ i j hi (by omega)) 1 rfl (lw_V q640 q641 q642 q127 q643) (by decide +kernel) ⟨Nat.le_of_ble_eq_true rfl, Nat.le_of_ble_eq_true rfl⟩ ⟨by omega, by omega⟩ [0] 24 ⟨rfl, rfl, rfl, ⟨Or.inl rfl, trivial⟩⟩ (fun h => nomatch h) (Nat.le_of_ble_eq_true rfl) ⟨⟨Or.inr trivial, Or.inr rfl, Or.inr trivial, Or.inr trivial, Or.inr trivial, Or.inr trivial, Or.inr trivial, Or.inr trivial, Or.inr trivial, Or.inr trivial, Or.inr trivial, Or.inr trivial, Or.inr trivial, Or.inr trivial, Or.inr trivial, Or.inr trivial, Or.inr trivial, Or.inr trivial, Or.inr trivial, Or.inr trivial, Or.inr trivial, Or.inr trivial, Or.inr rfl, Or.inr trivial, trivial⟩, rfl, rfl, rfl, Nat.le_of_ble_eq_true rfl⟩ rfl (hO) rfl dX7_is_38 (fun r_38 w_38 hp => ?_) (fun _ _ h => h.elim)
        obtain ⟨rfl, rfl⟩ := hp
        refine z_weq (w' := [zH, zO _ [zr _ _, zr _ _, zr _ _, zr _ _, zr _ _, zi _, zi _, zr _ _, zr _ _], zAi 3 400 _, zH, zH, zH, zH, zH, zH, zH, zH, zH, zH, zH, zH, zH, zH, zH, zH, zH, zH, zH, zO _ [zi _, zr _ _, zi _, zi _, zi _, zi _, zi _, zi _, zn, zi _, zr _ _], zAi 0 12 _]) rfl ?_
        refine z_seq (S' := zi _ :: _) rfl ?_
        refine z_aload_n F dX7_is_41 rfl ?_
        refine z_get F zC7 (f := 10) rfl (Nat.le_of_ble_eq_true rfl) q573 rfl dX7_is_42 ?_
        refine z_getN F zC1 (f := 1) rfl (Nat.le_of_ble_eq_true rfl) q314 rfl dX7_is_45 ?_
        refine z_aload_n F dX7_is_48 rfl ?_
        refine z_get F zC7 (f := 4) rfl (Nat.le_of_ble_eq_true rfl) q566 rfl dX7_is_49 ?_
        refine z_iload_n F dX7_is_52 rfl ?_
        refine z_iaddN F dX7_is_53 ?_
        refine z_baldN F rfl (Nat.le_of_ble_eq_true rfl) (by omega) rfl dX7_is_54 ?_
        refine z_ieq (hti (by omega)) ?_
        refine z_icmp_eqN F (by omega) (by omega) (tgt := 60) dX7_is_55 (by decide) (fun c_55 => ?_) (fun c_55 => ?_)
        · refine z_iincN F 1 dX7_is_60 rfl rfl ?_
          refine z_leq (L' := [_, _, _]) rfl ?_
          refine z_goto F (tgt := 28) dX7_is_63 (by decide) ?_
          exact ih (j + 1) (by omega) (by omega) (fun q hq => by
            by_cases w : q = j
            · rw [w]; omega
            · exact hall_ q (by omega))
        · refine z_iconstB F false dX7_is_58 rfl ?_
          exact z_zret F E rfl (bI_nar _) dX7_is_59 (by omega) (by omega) (⟨by rw [hno (fun w => by have := w.2.2 j (by omega); omega)], rfl⟩)
  refine z_aload_n F dX7_is_0 rfl ?_
  refine z_get F zC7 (f := 3) rfl (Nat.le_of_ble_eq_true rfl) q565 rfl dX7_is_1 ?_
  refine z_iconst F (nI 1) dX7_is_4 rfl ?_
  refine z_icmp_neN F (by omega) (by omega) (tgt := 24) dX7_is_5 (by decide) (fun c_5 => ?_) (fun c_5 => ?_)
  · refine z_iconstB F false dX7_is_24 rfl ?_
    exact z_zret F E rfl (bI_nar _) dX7_is_25 (by omega) (by omega) (⟨by rw [hno (fun w => by have := w.1; omega)], rfl⟩)
  · refine z_aloadQ_n F dX7_is_8 rfl ?_
    refine z_callVR F (c_JstrLen _ i hi) 0 rfl (lw_V q630 q631 q632 q127 q633) (by decide +kernel) ⟨Nat.le_of_ble_eq_true rfl, Nat.le_of_ble_eq_true rfl⟩ ⟨by omega, by omega⟩ [0] 24 ⟨rfl, rfl, rfl, ⟨Or.inl rfl, trivial⟩⟩ (fun h => nomatch h) (Nat.le_of_ble_eq_true rfl) ⟨⟨Or.inr trivial, Or.inr rfl, Or.inr trivial, Or.inr trivial, Or.inr trivial, Or.inr trivial, Or.inr trivial, Or.inr trivial, Or.inr trivial, Or.inr trivial, Or.inr trivial, Or.inr trivial, Or.inr trivial, Or.inr trivial, Or.inr trivial, Or.inr trivial, Or.inr trivial, Or.inr trivial, Or.inr trivial, Or.inr trivial, Or.inr trivial, Or.inr trivial, Or.inr rfl, Or.inr trivial, trivial⟩, rfl, rfl, rfl, Nat.le_of_ble_eq_true rfl⟩ rfl (hO) rfl dX7_is_9 (fun r_9 w_9 hp => ?_) (fun _ _ h => h.elim)
    obtain ⟨rfl, rfl⟩ := hp
    refine z_weq (w' := [zH, zO _ [zr _ _, zr _ _, zr _ _, zr _ _, zr _ _, zi _, zi _, zr _ _, zr _ _], zAi 3 400 _, zH, zH, zH, zH, zH, zH, zH, zH, zH, zH, zH, zH, zH, zH, zH, zH, zH, zH, zH, zO _ [zi _, zr _ _, zi _, zi _, zi _, zi _, zi _, zi _, zn, zi _, zr _ _], zAi 0 12 _]) rfl ?_
    refine z_seq (S' := zi _ :: _) rfl ?_
    refine z_aload_n F dX7_is_12 rfl ?_
    refine z_get F zC7 (f := 5) rfl (Nat.le_of_ble_eq_true rfl) q568 rfl dX7_is_13 ?_
    refine z_aload_n F dX7_is_16 rfl ?_
    refine z_get F zC7 (f := 4) rfl (Nat.le_of_ble_eq_true rfl) q566 rfl dX7_is_17 ?_
    refine z_isubN F (by omega) dX7_is_20 ?_
    refine z_icmp_eqN F (by omega) (by omega) (tgt := 26) dX7_is_21 (by decide) (fun c_21 => ?_) (fun c_21 => ?_)
    · refine z_iconst F (nI 0) dX7_is_26 rfl ?_
      refine z_istore_n F dX7_is_27 (Nat.le_of_ble_eq_true rfl) ?_
      refine z_leq (L' := [_, _, _]) rfl ?_
      exact loop (by omega) (by omega) (kwL i + 1) 0 (by omega) (by omega) (fun q hq => absurd hq (by omega))
    · refine z_iconstB F false dX7_is_24 rfl ?_
      exact z_zret F E rfl (bI_nar _) dX7_is_25 (by omega) (by omega) (⟨by rw [hno (fun w => by have := w.2.1; omega)], rfl⟩)
theorem c_hereB (t : Nat) (fp : Int32) (T : Nat → Int32) (n d : Nat) (f : Nat → Int32) (g : Nat → Int32) (z a k b e u m c : Nat) (tb : Nat → Nat) (hz : z ≤ 400) (hT : tBy T tb z) (ha : a ≤ z) : zCtr yX7_here cX7_here 1 (some .int) 0 0 0 [zr 22 0] (rWB t fp T n d f g z a k b e u m c) (fun r w => r = some (zi (rhV tb z a)) ∧ w = (rWB t fp T n d f g z a k b e u m c)) zNx := by
  refine z_start (by decide) [some (zr 22 0)] rfl (fun _ => Nat.le_of_ble_eq_true rfl) (fun _ => rfl) (fun X F E hno hin => ?_)
  refine z_aload_n F dX7_here_0 rfl ?_
  refine z_get F zC7 (f := 2) rfl (Nat.le_of_ble_eq_true rfl) q564 rfl dX7_here_1 ?_
  refine z_aload_n F dX7_here_4 rfl ?_
  refine z_get F zC7 (f := 0) rfl (Nat.le_of_ble_eq_true rfl) q562 rfl dX7_here_5 ?_
  refine z_icmp_geN F (by omega) (by omega) (tgt := 30) dX7_here_8 (by decide) (fun c_8 => ?_) (fun c_8 => ?_)
  · refine z_iconst F (-1) dX7_here_30 rfl ?_
    exact z_iret F E rfl dX7_here_31 (by omega) (by omega) (⟨by rw [rhV_n (by omega)], rfl⟩)
  · refine z_aload_n F dX7_here_11 rfl ?_
    refine z_get F zC7 (f := 10) rfl (Nat.le_of_ble_eq_true rfl) q573 rfl dX7_here_12 ?_
    refine z_getN F zC1 (f := 1) rfl (Nat.le_of_ble_eq_true rfl) q314 rfl dX7_here_15 ?_
    refine z_aload_n F dX7_here_18 rfl ?_
    refine z_get F zC7 (f := 2) rfl (Nat.le_of_ble_eq_true rfl) q564 rfl dX7_here_19 ?_
    refine z_baldN F rfl (Nat.le_of_ble_eq_true rfl) (by omega) rfl dX7_here_22 ?_
    refine z_sipush F (nI 255) dX7_here_23 rfl ?_
    refine z_iand F dX7_here_26 ?_
    refine z_ieq ((hT a (by omega)).2.symm) ?_
    refine z_goto F (tgt := 31) dX7_here_27 (by decide) ?_
    exact z_iret F E rfl dX7_here_31 (by omega) (by omega) (⟨by rw [rhV_p (by omega)], rfl⟩)
theorem c_isLetB (t : Nat) (fp : Int32) (T : Nat → Int32) (n d : Nat) (f : Nat → Int32) (g : Nat → Int32) (z a k b e u m c : Nat) (tb : Nat → Nat) (hz : z ≤ 400) (hT : tBy T tb z) (htb : ∀ i, tb i < 256) (ha : a ≤ z) : zCtr yX7_isLetter cX7_isLetter 1 (some .boolean) 1 0 0 [zr 22 0] (rWB t fp T n d f g z a k b e u m c) (fun r w => r = some (zi (bI (decide (a < z) && isL (tb a)))) ∧ w = (rWB t fp T n d f g z a k b e u m c)) zNx := by
  refine z_start (by decide) [some (zr 22 0)] rfl (fun _ => Nat.le_of_ble_eq_true rfl) (fun _ => rfl) (fun X F E hno hin => ?_)
  refine z_aload_n F dX7_isLetter_0 rfl ?_
  refine z_callV F (c_hereB t fp T n d f g z a k b e u m c tb hz hT ha) 0 rfl (lw_V q605 q607 qs3 q125 q608) (by decide +kernel) ⟨Nat.le_of_ble_eq_true rfl, Nat.le_of_ble_eq_true rfl⟩ ⟨by omega, by omega⟩ [0, 1, 2, 3, 4, 5, 6, 7, 8, 9, 10, 11, 12, 13, 14, 15, 16, 17, 18, 19, 20, 21, 22, 23, 24, 25] 26 ⟨rfl, rfl, rfl, ⟨Or.inl rfl, Or.inr rfl, Or.inr rfl, Or.inl rfl, Or.inl rfl, Or.inl rfl, Or.inl rfl, Or.inl rfl, Or.inl rfl, Or.inl rfl, Or.inl rfl, Or.inl rfl, Or.inl rfl, Or.inl rfl, Or.inl rfl, Or.inl rfl, Or.inl rfl, Or.inl rfl, Or.inl rfl, Or.inl rfl, Or.inl rfl, Or.inl rfl, Or.inr rfl, Or.inr rfl, Or.inr rfl, Or.inr rfl, trivial⟩⟩ (fun h => nomatch h) (Nat.le_of_ble_eq_true rfl) ⟨⟨Or.inr trivial, Or.inl rfl, Or.inl rfl, Or.inr trivial, Or.inr trivial, Or.inr trivial, Or.inr trivial, Or.inr trivial, Or.inr trivial, Or.inr trivial, Or.inr trivial, Or.inr trivial, Or.inr trivial, Or.inr trivial, Or.inr trivial, Or.inr trivial, Or.inr trivial, Or.inr trivial, Or.inr trivial, Or.inr trivial, Or.inr trivial, Or.inr trivial, Or.inl rfl, Or.inl rfl, Or.inl rfl, Or.inl rfl, trivial⟩, rfl, rfl, rfl, Nat.le_of_ble_eq_true rfl⟩ rfl zC7 rfl rfl dX7_isLetter_1 (fun r_1 w_1 hp => ?_) (fun _ _ h => h.elim)
  obtain ⟨rfl, rfl⟩ := hp
  refine z_weq (w' := [zH, zO _ [zr _ _, zr _ _, zr _ _, zr _ _, zr _ _, zi _, zi _, zr _ _, zr _ _], zAi 3 400 _, zH, zH, zH, zH, zH, zH, zH, zH, zH, zH, zH, zH, zH, zH, zH, zH, zH, zH, zH, zO _ [zi _, zr _ _, zi _, zi _, zi _, zi _, zi _, zi _, zr _ _, zi _, zr _ _], zAi 0 12 _, zO _ [zi _, zi _, zr _ _], zAi 0 24 _]) rfl ?_
  refine z_seq (S' := zi _ :: _) rfl ?_
  refine z_bipush F (nI 97) dX7_isLetter_4 rfl ?_
  refine z_bipush F (nI 122) dX7_isLetter_6 rfl ?_
  refine z_callSN F (c_in (rhV tb z a) (nI 97) (nI 122)) 3 rfl (lw_meth q351) q109 q613 q350 (by decide +kernel) ⟨Nat.le_of_ble_eq_true rfl, Nat.le_of_ble_eq_true rfl⟩ ⟨by omega, by omega⟩ [0] 26 ⟨rfl, rfl, rfl, ⟨Or.inl rfl, trivial⟩⟩ (fun h => nomatch h) (Nat.le_of_ble_eq_true rfl) ⟨⟨Or.inr trivial, Or.inr rfl, Or.inr trivial, Or.inr trivial, Or.inr trivial, Or.inr trivial, Or.inr trivial, Or.inr trivial, Or.inr trivial, Or.inr trivial, Or.inr trivial, Or.inr trivial, Or.inr trivial, Or.inr trivial, Or.inr trivial, Or.inr trivial, Or.inr trivial, Or.inr trivial, Or.inr trivial, Or.inr trivial, Or.inr trivial, Or.inr trivial, Or.inr rfl, Or.inr trivial, Or.inr rfl, Or.inr trivial, trivial⟩, rfl, rfl, rfl, Nat.le_of_ble_eq_true rfl⟩ rfl rfl dX7_isLetter_8 (fun r_8 w_8 hp => ?_) (fun _ _ h => h.elim)
  obtain ⟨rfl, rfl⟩ := hp
  refine z_weq (w' := [zH, zO _ [zr _ _, zr _ _, zr _ _, zr _ _, zr _ _, zi _, zi _, zr _ _, zr _ _], zAi 3 400 _, zH, zH, zH, zH, zH, zH, zH, zH, zH, zH, zH, zH, zH, zH, zH, zH, zH, zH, zH, zO _ [zi _, zr _ _, zi _, zi _, zi _, zi _, zi _, zi _, zr _ _, zi _, zr _ _], zAi 0 12 _, zO _ [zi _, zi _, zr _ _], zAi 0 24 _]) rfl ?_
  refine z_seq (S' := zi _ :: _) rfl ?_
  exact z_zret F E rfl (bI_nar _) dX7_isLetter_11 (by omega) (by omega) (⟨by rw [inB_L htb], rfl⟩)
theorem c_isDigB (t : Nat) (fp : Int32) (T : Nat → Int32) (n d : Nat) (f : Nat → Int32) (g : Nat → Int32) (z a k b e u m c : Nat) (tb : Nat → Nat) (hz : z ≤ 400) (hT : tBy T tb z) (htb : ∀ i, tb i < 256) (ha : a ≤ z) : zCtr yX7_isDigit cX7_isDigit 1 (some .boolean) 1 0 0 [zr 22 0] (rWB t fp T n d f g z a k b e u m c) (fun r w => r = some (zi (bI (decide (a < z) && isD (tb a)))) ∧ w = (rWB t fp T n d f g z a k b e u m c)) zNx := by
  refine z_start (by decide) [some (zr 22 0)] rfl (fun _ => Nat.le_of_ble_eq_true rfl) (fun _ => rfl) (fun X F E hno hin => ?_)
  refine z_aload_n F dX7_isDigit_0 rfl ?_
  refine z_callV F (c_hereB t fp T n d f g z a k b e u m c tb hz hT ha) 0 rfl (lw_V q605 q607 qs3 q125 q608) (by decide +kernel) ⟨Nat.le_of_ble_eq_true rfl, Nat.le_of_ble_eq_true rfl⟩ ⟨by omega, by omega⟩ [0, 1, 2, 3, 4, 5, 6, 7, 8, 9, 10, 11, 12, 13, 14, 15, 16, 17, 18, 19, 20, 21, 22, 23, 24, 25] 26 ⟨rfl, rfl, rfl, ⟨Or.inl rfl, Or.inr rfl, Or.inr rfl, Or.inl rfl, Or.inl rfl, Or.inl rfl, Or.inl rfl, Or.inl rfl, Or.inl rfl, Or.inl rfl, Or.inl rfl, Or.inl rfl, Or.inl rfl, Or.inl rfl, Or.inl rfl, Or.inl rfl, Or.inl rfl, Or.inl rfl, Or.inl rfl, Or.inl rfl, Or.inl rfl, Or.inl rfl, Or.inr rfl, Or.inr rfl, Or.inr rfl, Or.inr rfl, trivial⟩⟩ (fun h => nomatch h) (Nat.le_of_ble_eq_true rfl) ⟨⟨Or.inr trivial, Or.inl rfl, Or.inl rfl, Or.inr trivial, Or.inr trivial, Or.inr trivial, Or.inr trivial, Or.inr trivial, Or.inr trivial, Or.inr trivial, Or.inr trivial, Or.inr trivial, Or.inr trivial, Or.inr trivial, Or.inr trivial, Or.inr trivial, Or.inr trivial, Or.inr trivial, Or.inr trivial, Or.inr trivial, Or.inr trivial, Or.inr trivial, Or.inl rfl, Or.inl rfl, Or.inl rfl, Or.inl rfl, trivial⟩, rfl, rfl, rfl, Nat.le_of_ble_eq_true rfl⟩ rfl zC7 rfl rfl dX7_isDigit_1 (fun r_1 w_1 hp => ?_) (fun _ _ h => h.elim)
  obtain ⟨rfl, rfl⟩ := hp
  refine z_weq (w' := [zH, zO _ [zr _ _, zr _ _, zr _ _, zr _ _, zr _ _, zi _, zi _, zr _ _, zr _ _], zAi 3 400 _, zH, zH, zH, zH, zH, zH, zH, zH, zH, zH, zH, zH, zH, zH, zH, zH, zH, zH, zH, zO _ [zi _, zr _ _, zi _, zi _, zi _, zi _, zi _, zi _, zr _ _, zi _, zr _ _], zAi 0 12 _, zO _ [zi _, zi _, zr _ _], zAi 0 24 _]) rfl ?_
  refine z_seq (S' := zi _ :: _) rfl ?_
  refine z_bipush F (nI 48) dX7_isDigit_4 rfl ?_
  refine z_bipush F (nI 57) dX7_isDigit_6 rfl ?_
  refine z_callSN F (c_in (rhV tb z a) (nI 48) (nI 57)) 3 rfl (lw_meth q351) q109 q613 q350 (by decide +kernel) ⟨Nat.le_of_ble_eq_true rfl, Nat.le_of_ble_eq_true rfl⟩ ⟨by omega, by omega⟩ [0] 26 ⟨rfl, rfl, rfl, ⟨Or.inl rfl, trivial⟩⟩ (fun h => nomatch h) (Nat.le_of_ble_eq_true rfl) ⟨⟨Or.inr trivial, Or.inr rfl, Or.inr trivial, Or.inr trivial, Or.inr trivial, Or.inr trivial, Or.inr trivial, Or.inr trivial, Or.inr trivial, Or.inr trivial, Or.inr trivial, Or.inr trivial, Or.inr trivial, Or.inr trivial, Or.inr trivial, Or.inr trivial, Or.inr trivial, Or.inr trivial, Or.inr trivial, Or.inr trivial, Or.inr trivial, Or.inr trivial, Or.inr rfl, Or.inr trivial, Or.inr rfl, Or.inr trivial, trivial⟩, rfl, rfl, rfl, Nat.le_of_ble_eq_true rfl⟩ rfl rfl dX7_isDigit_8 (fun r_8 w_8 hp => ?_) (fun _ _ h => h.elim)
  obtain ⟨rfl, rfl⟩ := hp
  refine z_weq (w' := [zH, zO _ [zr _ _, zr _ _, zr _ _, zr _ _, zr _ _, zi _, zi _, zr _ _, zr _ _], zAi 3 400 _, zH, zH, zH, zH, zH, zH, zH, zH, zH, zH, zH, zH, zH, zH, zH, zH, zH, zH, zH, zO _ [zi _, zr _ _, zi _, zi _, zi _, zi _, zi _, zi _, zr _ _, zi _, zr _ _], zAi 0 12 _, zO _ [zi _, zi _, zr _ _], zAi 0 24 _]) rfl ?_
  refine z_seq (S' := zi _ :: _) rfl ?_
  exact z_zret F E rfl (bI_nar _) dX7_isDigit_11 (by omega) (by omega) (⟨by rw [inB_D htb], rfl⟩)
theorem c_nextB (t : Nat) (fp : Int32) (T : Nat → Int32) (n d : Nat) (f : Nat → Int32) (g : Nat → Int32) (z p k0 b0 e0 u m c : Nat) (tb : Nat → Nat) (hz : z ≤ 400) (hT : tBy T tb z) (htb : ∀ i, tb i < 256) (hp : p ≤ z) : zCtr yX7_next cX7_next 1 none 3 0 0 [zr 22 0] (rWB t fp T n d f g z p k0 b0 e0 u m c) (fun r w => r = none ∧ w = (rWB t fp T n d f g z (en tb z (sk tb z p)) (kd tb z (sk tb z p)) (sk tb z p) (en tb z (sk tb z p)) (nuV tb z (sk tb z p) u) m c)) zNx := by
  refine z_start (by decide) [some (zr 22 0)] rfl (fun _ => Nat.le_of_ble_eq_true rfl) (fun _ => rfl) (fun X F E hno hin => ?_)
  have hb1 := sk_ge tb z p
  have hb2 := hb1.2 hp
  generalize hb : sk tb z p = b at hb1 hb2 E
  have he1 := en_ge tb z b
  have he2 := he1.2 hb2
  have fin : ∀ (q k u' : Nat), q = en tb z b → k = kd tb z b → u' = nuV tb z b u → Z X [some (zr 22 0)] [] (rWB t fp T n d f g z q k b e0 u' m c) 0 0 183 := by
    intro q k u' hq hk hu
    subst hq
    subst hk
    subst hu
    refine z_aload_n F dX7_next_183 rfl ?_
    refine z_aload_n F dX7_next_184 rfl ?_
    refine z_get F zC7 (f := 2) rfl (Nat.le_of_ble_eq_true rfl) q564 rfl dX7_next_185 ?_
    refine z_put F zC7 (f := 5) rfl (Nat.le_of_ble_eq_true rfl) q568 rfl (fun _ => rfl) (fun _ => rfl) (Nat.le_of_ble_eq_true rfl) dX7_next_188 ?_
    refine z_weq (w' := [_, _, _, _, _, _, _, _, _, _, _, _, _, _, _, _, _, _, _, _, _, _, zO _ [_, _, _, _, _, _, _, _, _, _, _], _, _, _]) rfl ?_
    exact z_vret F E rfl dX7_next_191 (by omega) (by omega) (⟨rfl, rfl⟩)
  have let_ : isL (tb b) = true → b < z → ∀ (x q : Nat), z - q < x → b ≤ q → q ≤ z → rn (fun k => isL (tb k)) z q = en tb z b → Z X [some (zr 22 0)] [] (rWB t fp T n d f g z q k0 b e0 u m c) 0 0 62 := by
    intro hL hbz x
    induction x with
    | zero => intro q hx; omega
    | succ x ih =>
      intro q hx hbq hqz hrn
      have hk1 : kd tb z b = 1 := by unfold kd; rw [if_neg (by omega), if_pos hL]
      refine z_aload_n F dX7_next_62 rfl ?_
      refine z_callV F (c_isLetB t fp T n d f g z q k0 b e0 u m c tb hz hT htb hqz) 0 rfl (lw_V q609 q611 qs4 q125 q612) (by decide +kernel) ⟨Nat.le_of_ble_eq_true rfl, Nat.le_of_ble_eq_true rfl⟩ ⟨by omega, by omega⟩ [0, 1, 2, 3, 4, 5, 6, 7, 8, 9, 10, 11, 12, 13, 14, 15, 16, 17, 18, 19, 20, 21, 22, 23, 24, 25] 26 ⟨rfl, rfl, rfl, ⟨Or.inl rfl, Or.inr rfl, Or.inr rfl, Or.inl rfl, Or.inl rfl, Or.inl rfl, Or.inl rfl, Or.inl rfl, Or.inl rfl, Or.inl rfl, Or.inl rfl, Or.inl rfl, Or.inl rfl, Or.inl rfl, Or.inl rfl, Or.inl rfl, Or.inl rfl, Or.inl rfl, Or.inl rfl, Or.inl rfl, Or.inl rfl, Or.inl rfl, Or.inr rfl, Or.inr rfl, Or.inr rfl, Or.inr rfl, trivial⟩⟩ (fun h => nomatch h) (Nat.le_of_ble_eq_true rfl) ⟨⟨Or.inr trivial, Or.inl rfl, Or.inl rfl, Or.inr trivial, Or.inr trivial, Or.inr trivial, Or.inr trivial, Or.inr trivial, Or.inr trivial, Or.inr trivial, Or.inr trivial, Or.inr trivial, Or.inr trivial, Or.inr trivial, Or.inr trivial, Or.inr trivial, Or.inr trivial, Or.inr trivial, Or.inr trivial, Or.inr trivial, Or.inr trivial, Or.inr trivial, Or.inl rfl, Or.inl rfl, Or.inl rfl, Or.inl rfl, trivial⟩, rfl, rfl, rfl, Nat.le_of_ble_eq_true rfl⟩ rfl zC7 rfl rfl dX7_next_63 (fun r_63 w_63 hp => ?_) (fun _ _ h => h.elim)
      obtain ⟨rfl, rfl⟩ := hp
      refine z_weq (w' := [zH, zO _ [zr _ _, zr _ _, zr _ _, zr _ _, zr _ _, zi _, zi _, zr _ _, zr _ _], zAi 3 400 _, zH, zH, zH, zH, zH, zH, zH, zH, zH, zH, zH, zH, zH, zH, zH, zH, zH, zH, zH, zO _ [zi _, zr _ _, zi _, zi _, zi _, zi _, zi _, zi _, zr _ _, zi _, zr _ _], zAi 0 12 _, zO _ [zi _, zi _, zr _ _], zAi 0 24 _]) rfl ?_
      refine z_seq (S' := zi _ :: _) rfl ?_
      refine z_if_eqB F (tgt := 82) dX7_next_66 (by decide) (fun c_66 => ?_) (fun c_66 => ?_)
      · refine z_aload_n F dX7_next_82 rfl ?_
        refine z_iconst F (nI 1) dX7_next_83 rfl ?_
        refine z_put F zC7 (f := 3) rfl (Nat.le_of_ble_eq_true rfl) q565 rfl (fun _ => rfl) (fun _ => rfl) (Nat.le_of_ble_eq_true rfl) dX7_next_84 ?_
        refine z_weq (w' := [_, _, _, _, _, _, _, _, _, _, _, _, _, _, _, _, _, _, _, _, _, _, zO _ [_, _, _, _, _, _, _, _, _, _, _], _, _, _]) rfl ?_
        refine z_goto F (tgt := 183) dX7_next_87 (by decide) ?_
        have hend : ¬ (q < z ∧ isL (tb q) = true) := fun w => by
          rw [decide_eq_true w.1, w.2] at c_66; cases c_66
        have eq_ : q = en tb z b := by rw [← hrn]; exact (rn_stop (p := fun k => isL (tb k)) hend).symm
        exact fin q 1 u eq_ hk1.symm (by rw [nuV, if_neg (by omega)])
      · have hq : q < z ∧ isL (tb q) = true := by rw [Bool.and_eq_true, decide_eq_true_eq] at c_66; exact c_66
        refine z_aload_n F dX7_next_69 rfl ?_
        refine z_dup F dX7_next_70 rfl ?_
        refine z_get F zC7 (f := 2) rfl (Nat.le_of_ble_eq_true rfl) q564 rfl dX7_next_71 ?_
        refine z_iconst F (nI 1) dX7_next_74 rfl ?_
        refine z_iaddN F dX7_next_75 ?_
        refine z_put F zC7 (f := 2) rfl (Nat.le_of_ble_eq_true rfl) q564 rfl (fun _ => rfl) (fun _ => rfl) (Nat.le_of_ble_eq_true rfl) dX7_next_76 ?_
        refine z_weq (w' := [_, _, _, _, _, _, _, _, _, _, _, _, _, _, _, _, _, _, _, _, _, _, zO _ [_, _, _, _, _, _, _, _, _, _, _], _, _, _]) rfl ?_
        refine z_goto F (tgt := 62) dX7_next_79 (by decide) ?_
        exact ih (q + 1) (by omega) (by omega) (by omega) (by rw [← hrn]; exact (rn_step (p := fun k => isL (tb k)) hq.1 hq.2).symm)
  have dig_ : isL (tb b) = false → isD (tb b) = true → b < z → ∀ (x q : Nat), z - q < x → b ≤ q → q ≤ z → rn (fun k => isD (tb k)) z q = en tb z b → Z X [some (zr 22 0)] [] (rWB t fp T n d f g z q k0 b e0 (nvd tb b (q - b)) m c) 0 0 102 := by
    intro hL hD hbz x
    induction x with
    | zero => intro q hx; omega
    | succ x ih =>
      intro q hx hbq hqz hrn
      have hk2 : kd tb z b = 2 := by unfold kd; rw [if_neg (by omega), if_neg (by rw [hL]; decide), if_pos hD]
      have hnv := nvd_le (tb := tb) (b := b) (q - b)
      have h256 := htb q
      refine z_aload_n F dX7_next_102 rfl ?_
      refine z_callV F (c_isDigB t fp T n d f g z q k0 b e0 _ m c tb hz hT htb hqz) 0 rfl (lw_V q614 q616 qs5 q125 q617) (by decide +kernel) ⟨Nat.le_of_ble_eq_true rfl, Nat.le_of_ble_eq_true rfl⟩ ⟨by omega, by omega⟩ [0, 1, 2, 3, 4, 5, 6, 7, 8, 9, 10, 11, 12, 13, 14, 15, 16, 17, 18, 19, 20, 21, 22, 23, 24, 25] 26 ⟨rfl, rfl, rfl, ⟨Or.inl rfl, Or.inr rfl, Or.inr rfl, Or.inl rfl, Or.inl rfl, Or.inl rfl, Or.inl rfl, Or.inl rfl, Or.inl rfl, Or.inl rfl, Or.inl rfl, Or.inl rfl, Or.inl rfl, Or.inl rfl, Or.inl rfl, Or.inl rfl, Or.inl rfl, Or.inl rfl, Or.inl rfl, Or.inl rfl, Or.inl rfl, Or.inl rfl, Or.inr rfl, Or.inr rfl, Or.inr rfl, Or.inr rfl, trivial⟩⟩ (fun h => nomatch h) (Nat.le_of_ble_eq_true rfl) ⟨⟨Or.inr trivial, Or.inl rfl, Or.inl rfl, Or.inr trivial, Or.inr trivial, Or.inr trivial, Or.inr trivial, Or.inr trivial, Or.inr trivial, Or.inr trivial, Or.inr trivial, Or.inr trivial, Or.inr trivial, Or.inr trivial, Or.inr trivial, Or.inr trivial, Or.inr trivial, Or.inr trivial, Or.inr trivial, Or.inr trivial, Or.inr trivial, Or.inr trivial, Or.inl rfl, Or.inl rfl, Or.inl rfl, Or.inl rfl, trivial⟩, rfl, rfl, rfl, Nat.le_of_ble_eq_true rfl⟩ rfl zC7 rfl rfl dX7_next_103 (fun r_103 w_103 hp => ?_) (fun _ _ h => h.elim)
      obtain ⟨rfl, rfl⟩ := hp
      refine z_weq (w' := [zH, zO _ [zr _ _, zr _ _, zr _ _, zr _ _, zr _ _, zi _, zi _, zr _ _, zr _ _], zAi 3 400 _, zH, zH, zH, zH, zH, zH, zH, zH, zH, zH, zH, zH, zH, zH, zH, zH, zH, zH, zH, zO _ [zi _, zr _ _, zi _, zi _, zi _, zi _, zi _, zi _, zr _ _, zi _, zr _ _], zAi 0 12 _, zO _ [zi _, zi _, zr _ _], zAi 0 24 _]) rfl ?_
      refine z_seq (S' := zi _ :: _) rfl ?_
      refine z_if_eqB F (tgt := 147) dX7_next_106 (by decide) (fun c_106 => ?_) (fun c_106 => ?_)
      · refine z_aload_n F dX7_next_147 rfl ?_
        refine z_iconst F (nI 2) dX7_next_148 rfl ?_
        refine z_put F zC7 (f := 3) rfl (Nat.le_of_ble_eq_true rfl) q565 rfl (fun _ => rfl) (fun _ => rfl) (Nat.le_of_ble_eq_true rfl) dX7_next_149 ?_
        refine z_weq (w' := [_, _, _, _, _, _, _, _, _, _, _, _, _, _, _, _, _, _, _, _, _, _, zO _ [_, _, _, _, _, _, _, _, _, _, _], _, _, _]) rfl ?_
        refine z_goto F (tgt := 183) dX7_next_152 (by decide) ?_
        have hend : ¬ (q < z ∧ isD (tb q) = true) := fun w => by
          rw [decide_eq_true w.1, w.2] at c_106; cases c_106
        have eq_ : q = en tb z b := by rw [← hrn]; exact (rn_stop (p := fun k => isD (tb k)) hend).symm
        exact fin q 2 _ eq_ hk2.symm (by rw [nuV, if_pos hk2, ← eq_])
      · have hq : q < z ∧ isD (tb q) = true := by rw [Bool.and_eq_true, decide_eq_true_eq] at c_106; exact c_106
        have hl2 : 48 ≤ tb q ∧ tb q ≤ 57 := by have hl := hq.2; unfold isD at hl; rw [decide_eq_true_eq] at hl; exact hl
        refine z_aload_n F dX7_next_109 rfl ?_
        refine z_sipush F (nI 10000) dX7_next_110 rfl ?_
        refine z_bipush F (nI 10) dX7_next_113 rfl ?_
        refine z_aload_n F dX7_next_115 rfl ?_
        refine z_get F zC7 (f := 6) rfl (Nat.le_of_ble_eq_true rfl) q569 rfl dX7_next_116 ?_
        refine z_imulN F dX7_next_119 ?_
        refine z_aload_n F dX7_next_120 rfl ?_
        refine z_callV F (c_hereB t fp T n d f g z q k0 b e0 _ m c tb hz hT hqz) 0 rfl (lw_V q605 q607 qs3 q125 q608) (by decide +kernel) ⟨Nat.le_of_ble_eq_true rfl, Nat.le_of_ble_eq_true rfl⟩ ⟨by omega, by omega⟩ [0, 1, 2, 3, 4, 5, 6, 7, 8, 9, 10, 11, 12, 13, 14, 15, 16, 17, 18, 19, 20, 21, 22, 23, 24, 25] 26 ⟨rfl, rfl, rfl, ⟨Or.inl rfl, Or.inr rfl, Or.inr rfl, Or.inl rfl, Or.inl rfl, Or.inl rfl, Or.inl rfl, Or.inl rfl, Or.inl rfl, Or.inl rfl, Or.inl rfl, Or.inl rfl, Or.inl rfl, Or.inl rfl, Or.inl rfl, Or.inl rfl, Or.inl rfl, Or.inl rfl, Or.inl rfl, Or.inl rfl, Or.inl rfl, Or.inl rfl, Or.inr rfl, Or.inr rfl, Or.inr rfl, Or.inr rfl, trivial⟩⟩ (fun h => nomatch h) (Nat.le_of_ble_eq_true rfl) ⟨⟨Or.inr trivial, Or.inl rfl, Or.inl rfl, Or.inr trivial, Or.inr trivial, Or.inr trivial, Or.inr trivial, Or.inr trivial, Or.inr trivial, Or.inr trivial, Or.inr trivial, Or.inr trivial, Or.inr trivial, Or.inr trivial, Or.inr trivial, Or.inr trivial, Or.inr trivial, Or.inr trivial, Or.inr trivial, Or.inr trivial, Or.inr trivial, Or.inr trivial, Or.inl rfl, Or.inl rfl, Or.inl rfl, Or.inl rfl, trivial⟩, rfl, rfl, rfl, Nat.le_of_ble_eq_true rfl⟩ rfl zC7 rfl rfl dX7_next_121 (fun r_121 w_121 hp => ?_) (fun _ _ h => h.elim)
        obtain ⟨rfl, rfl⟩ := hp
        rw [rhV_p hq.1]
        refine z_weq (w' := [zH, zO _ [zr _ _, zr _ _, zr _ _, zr _ _, zr _ _, zi _, zi _, zr _ _, zr _ _], zAi 3 400 _, zH, zH, zH, zH, zH, zH, zH, zH, zH, zH, zH, zH, zH, zH, zH, zH, zH, zH, zH, zO _ [zi _, zr _ _, zi _, zi _, zi _, zi _, zi _, zi _, zr _ _, zi _, zr _ _], zAi 0 12 _, zO _ [zi _, zi _, zr _ _], zAi 0 24 _]) rfl ?_
        refine z_seq (S' := zi _ :: _) rfl ?_
        refine z_iaddN F dX7_next_124 ?_
        refine z_bipush F (nI 48) dX7_next_125 rfl ?_
        refine z_isubN F (by omega) dX7_next_127 ?_
        refine z_mmin F q618 dX7_next_128 (Nat.le_of_ble_eq_true rfl) rfl (Nat.le_of_ble_eq_true rfl) ⟨by omega, by omega⟩ ?_
        refine z_ieq (mminN (by omega) (by omega)) ?_
        refine z_put F zC7 (f := 6) rfl (Nat.le_of_ble_eq_true rfl) q569 rfl (fun _ => rfl) (fun _ => rfl) (Nat.le_of_ble_eq_true rfl) dX7_next_131 ?_
        refine z_weq (w' := [_, _, _, _, _, _, _, _, _, _, _, _, _, _, _, _, _, _, _, _, _, _, zO _ [_, _, _, _, _, _, _, _, _, _, _], _, _, _]) rfl ?_
        refine z_aload_n F dX7_next_134 rfl ?_
        refine z_dup F dX7_next_135 rfl ?_
        refine z_get F zC7 (f := 2) rfl (Nat.le_of_ble_eq_true rfl) q564 rfl dX7_next_136 ?_
        refine z_iconst F (nI 1) dX7_next_139 rfl ?_
        refine z_iaddN F dX7_next_140 ?_
        refine z_put F zC7 (f := 2) rfl (Nat.le_of_ble_eq_true rfl) q564 rfl (fun _ => rfl) (fun _ => rfl) (Nat.le_of_ble_eq_true rfl) dX7_next_141 ?_
        refine z_weq (w' := [_, _, _, _, _, _, _, _, _, _, _, _, _, _, _, _, _, _, _, _, _, _, zO _ [_, _, _, _, _, _, _, _, _, _, _], _, _, _]) rfl ?_
        refine z_goto F (tgt := 102) dX7_next_144 (by decide) ?_
        have hx := ih (q + 1) (by omega) (by omega) (by omega) (by rw [← hrn]; exact (rn_step (p := fun k => isD (tb k)) hq.1 hq.2).symm)
        rw [show q + 1 - b = (q - b) + 1 by omega, nvd, show b + (q - b) = q by omega, show 10 * nvd tb b (q - b) + (tb q - 48) = 10 * nvd tb b (q - b) + tb q - 48 by omega] at hx
        exact hx
  have at31 : Z X [some (zr 22 0)] [] (rWB t fp T n d f g z b k0 b0 e0 u m c) 0 0 31 := by
    have h256 := htb b
    by_cases hbz : b < z
    · skip
      refine z_aload_n F dX7_next_31 rfl ?_
      refine z_aload_n F dX7_next_32 rfl ?_
      refine z_get F zC7 (f := 2) rfl (Nat.le_of_ble_eq_true rfl) q564 rfl dX7_next_33 ?_
      refine z_put F zC7 (f := 4) rfl (Nat.le_of_ble_eq_true rfl) q566 rfl (fun _ => rfl) (fun _ => rfl) (Nat.le_of_ble_eq_true rfl) dX7_next_36 ?_
      refine z_weq (w' := [_, _, _, _, _, _, _, _, _, _, _, _, _, _, _, _, _, _, _, _, _, _, zO _ [_, _, _, _, _, _, _, _, _, _, _], _, _, _]) rfl ?_
      refine z_aload_n F dX7_next_39 rfl ?_
      refine z_callV F (c_hereB t fp T n d f g z b k0 b e0 u m c tb hz hT hb2) 0 rfl (lw_V q605 q607 qs3 q125 q608) (by decide +kernel) ⟨Nat.le_of_ble_eq_true rfl, Nat.le_of_ble_eq_true rfl⟩ ⟨by omega, by omega⟩ [0, 1, 2, 3, 4, 5, 6, 7, 8, 9, 10, 11, 12, 13, 14, 15, 16, 17, 18, 19, 20, 21, 22, 23, 24, 25] 26 ⟨rfl, rfl, rfl, ⟨Or.inl rfl, Or.inr rfl, Or.inr rfl, Or.inl rfl, Or.inl rfl, Or.inl rfl, Or.inl rfl, Or.inl rfl, Or.inl rfl, Or.inl rfl, Or.inl rfl, Or.inl rfl, Or.inl rfl, Or.inl rfl, Or.inl rfl, Or.inl rfl, Or.inl rfl, Or.inl rfl, Or.inl rfl, Or.inl rfl, Or.inl rfl, Or.inl rfl, Or.inr rfl, Or.inr rfl, Or.inr rfl, Or.inr rfl, trivial⟩⟩ (fun h => nomatch h) (Nat.le_of_ble_eq_true rfl) ⟨⟨Or.inr trivial, Or.inl rfl, Or.inl rfl, Or.inr trivial, Or.inr trivial, Or.inr trivial, Or.inr trivial, Or.inr trivial, Or.inr trivial, Or.inr trivial, Or.inr trivial, Or.inr trivial, Or.inr trivial, Or.inr trivial, Or.inr trivial, Or.inr trivial, Or.inr trivial, Or.inr trivial, Or.inr trivial, Or.inr trivial, Or.inr trivial, Or.inr trivial, Or.inl rfl, Or.inl rfl, Or.inl rfl, Or.inl rfl, trivial⟩, rfl, rfl, rfl, Nat.le_of_ble_eq_true rfl⟩ rfl zC7 rfl rfl dX7_next_40 (fun r_40 w_40 hp => ?_) (fun _ _ h => h.elim)
      obtain ⟨rfl, rfl⟩ := hp
      rw [rhV_p hbz]
      refine z_weq (w' := [zH, zO _ [zr _ _, zr _ _, zr _ _, zr _ _, zr _ _, zi _, zi _, zr _ _, zr _ _], zAi 3 400 _, zH, zH, zH, zH, zH, zH, zH, zH, zH, zH, zH, zH, zH, zH, zH, zH, zH, zH, zH, zO _ [zi _, zr _ _, zi _, zi _, zi _, zi _, zi _, zi _, zr _ _, zi _, zr _ _], zAi 0 12 _, zO _ [zi _, zi _, zr _ _], zAi 0 24 _]) rfl ?_
      refine z_seq (S' := zi _ :: _) rfl ?_
      refine z_iconst F (-1) dX7_next_43 rfl ?_
      refine z_icmp_ne F (tgt := 55) dX7_next_44 (by decide) (fun c_44 => ?_) (fun c_44 => ?_)
      · refine z_aload_n F dX7_next_55 rfl ?_
        refine z_callV F (c_isLetB t fp T n d f g z b k0 b e0 u m c tb hz hT htb hb2) 0 rfl (lw_V q609 q611 qs4 q125 q612) (by decide +kernel) ⟨Nat.le_of_ble_eq_true rfl, Nat.le_of_ble_eq_true rfl⟩ ⟨by omega, by omega⟩ [0, 1, 2, 3, 4, 5, 6, 7, 8, 9, 10, 11, 12, 13, 14, 15, 16, 17, 18, 19, 20, 21, 22, 23, 24, 25] 26 ⟨rfl, rfl, rfl, ⟨Or.inl rfl, Or.inr rfl, Or.inr rfl, Or.inl rfl, Or.inl rfl, Or.inl rfl, Or.inl rfl, Or.inl rfl, Or.inl rfl, Or.inl rfl, Or.inl rfl, Or.inl rfl, Or.inl rfl, Or.inl rfl, Or.inl rfl, Or.inl rfl, Or.inl rfl, Or.inl rfl, Or.inl rfl, Or.inl rfl, Or.inl rfl, Or.inl rfl, Or.inr rfl, Or.inr rfl, Or.inr rfl, Or.inr rfl, trivial⟩⟩ (fun h => nomatch h) (Nat.le_of_ble_eq_true rfl) ⟨⟨Or.inr trivial, Or.inl rfl, Or.inl rfl, Or.inr trivial, Or.inr trivial, Or.inr trivial, Or.inr trivial, Or.inr trivial, Or.inr trivial, Or.inr trivial, Or.inr trivial, Or.inr trivial, Or.inr trivial, Or.inr trivial, Or.inr trivial, Or.inr trivial, Or.inr trivial, Or.inr trivial, Or.inr trivial, Or.inr trivial, Or.inr trivial, Or.inr trivial, Or.inl rfl, Or.inl rfl, Or.inl rfl, Or.inl rfl, trivial⟩, rfl, rfl, rfl, Nat.le_of_ble_eq_true rfl⟩ rfl zC7 rfl rfl dX7_next_56 (fun r_56 w_56 hp => ?_) (fun _ _ h => h.elim)
        obtain ⟨rfl, rfl⟩ := hp
        rw [decide_eq_true hbz, Bool.true_and]
        refine z_weq (w' := [zH, zO _ [zr _ _, zr _ _, zr _ _, zr _ _, zr _ _, zi _, zi _, zr _ _, zr _ _], zAi 3 400 _, zH, zH, zH, zH, zH, zH, zH, zH, zH, zH, zH, zH, zH, zH, zH, zH, zH, zH, zH, zO _ [zi _, zr _ _, zi _, zi _, zi _, zi _, zi _, zi _, zr _ _, zi _, zr _ _], zAi 0 12 _, zO _ [zi _, zi _, zr _ _], zAi 0 24 _]) rfl ?_
        refine z_seq (S' := zi _ :: _) rfl ?_
        refine z_if_eqB F (tgt := 90) dX7_next_59 (by decide) (fun c_59 => ?_) (fun c_59 => ?_)
        · refine z_aload_n F dX7_next_90 rfl ?_
          refine z_callV F (c_isDigB t fp T n d f g z b k0 b e0 u m c tb hz hT htb hb2) 0 rfl (lw_V q614 q616 qs5 q125 q617) (by decide +kernel) ⟨Nat.le_of_ble_eq_true rfl, Nat.le_of_ble_eq_true rfl⟩ ⟨by omega, by omega⟩ [0, 1, 2, 3, 4, 5, 6, 7, 8, 9, 10, 11, 12, 13, 14, 15, 16, 17, 18, 19, 20, 21, 22, 23, 24, 25] 26 ⟨rfl, rfl, rfl, ⟨Or.inl rfl, Or.inr rfl, Or.inr rfl, Or.inl rfl, Or.inl rfl, Or.inl rfl, Or.inl rfl, Or.inl rfl, Or.inl rfl, Or.inl rfl, Or.inl rfl, Or.inl rfl, Or.inl rfl, Or.inl rfl, Or.inl rfl, Or.inl rfl, Or.inl rfl, Or.inl rfl, Or.inl rfl, Or.inl rfl, Or.inl rfl, Or.inl rfl, Or.inr rfl, Or.inr rfl, Or.inr rfl, Or.inr rfl, trivial⟩⟩ (fun h => nomatch h) (Nat.le_of_ble_eq_true rfl) ⟨⟨Or.inr trivial, Or.inl rfl, Or.inl rfl, Or.inr trivial, Or.inr trivial, Or.inr trivial, Or.inr trivial, Or.inr trivial, Or.inr trivial, Or.inr trivial, Or.inr trivial, Or.inr trivial, Or.inr trivial, Or.inr trivial, Or.inr trivial, Or.inr trivial, Or.inr trivial, Or.inr trivial, Or.inr trivial, Or.inr trivial, Or.inr trivial, Or.inr trivial, Or.inl rfl, Or.inl rfl, Or.inl rfl, Or.inl rfl, trivial⟩, rfl, rfl, rfl, Nat.le_of_ble_eq_true rfl⟩ rfl zC7 rfl rfl dX7_next_91 (fun r_91 w_91 hp => ?_) (fun _ _ h => h.elim)
          obtain ⟨rfl, rfl⟩ := hp
          rw [decide_eq_true hbz, Bool.true_and]
          refine z_weq (w' := [zH, zO _ [zr _ _, zr _ _, zr _ _, zr _ _, zr _ _, zi _, zi _, zr _ _, zr _ _], zAi 3 400 _, zH, zH, zH, zH, zH, zH, zH, zH, zH, zH, zH, zH, zH, zH, zH, zH, zH, zH, zH, zO _ [zi _, zr _ _, zi _, zi _, zi _, zi _, zi _, zi _, zr _ _, zi _, zr _ _], zAi 0 12 _, zO _ [zi _, zi _, zr _ _], zAi 0 24 _]) rfl ?_
          refine z_seq (S' := zi _ :: _) rfl ?_
          refine z_if_eqB F (tgt := 155) dX7_next_94 (by decide) (fun c_94 => ?_) (fun c_94 => ?_)
          · have e1 : en tb z b = b + 1 := by unfold en; rw [if_neg (by omega), if_neg (by rw [c_59]; decide), if_neg (by rw [c_94]; decide)]
            refine z_aload_n F dX7_next_155 rfl ?_
            refine z_aload_n F dX7_next_156 rfl ?_
            refine z_callV F (c_hereB t fp T n d f g z b k0 b e0 u m c tb hz hT hb2) 0 rfl (lw_V q605 q607 qs3 q125 q608) (by decide +kernel) ⟨Nat.le_of_ble_eq_true rfl, Nat.le_of_ble_eq_true rfl⟩ ⟨by omega, by omega⟩ [0, 1, 2, 3, 4, 5, 6, 7, 8, 9, 10, 11, 12, 13, 14, 15, 16, 17, 18, 19, 20, 21, 22, 23, 24, 25] 26 ⟨rfl, rfl, rfl, ⟨Or.inl rfl, Or.inr rfl, Or.inr rfl, Or.inl rfl, Or.inl rfl, Or.inl rfl, Or.inl rfl, Or.inl rfl, Or.inl rfl, Or.inl rfl, Or.inl rfl, Or.inl rfl, Or.inl rfl, Or.inl rfl, Or.inl rfl, Or.inl rfl, Or.inl rfl, Or.inl rfl, Or.inl rfl, Or.inl rfl, Or.inl rfl, Or.inl rfl, Or.inr rfl, Or.inr rfl, Or.inr rfl, Or.inr rfl, trivial⟩⟩ (fun h => nomatch h) (Nat.le_of_ble_eq_true rfl) ⟨⟨Or.inr trivial, Or.inl rfl, Or.inl rfl, Or.inr trivial, Or.inr trivial, Or.inr trivial, Or.inr trivial, Or.inr trivial, Or.inr trivial, Or.inr trivial, Or.inr trivial, Or.inr trivial, Or.inr trivial, Or.inr trivial, Or.inr trivial, Or.inr trivial, Or.inr trivial, Or.inr trivial, Or.inr trivial, Or.inr trivial, Or.inr trivial, Or.inr trivial, Or.inl rfl, Or.inl rfl, Or.inl rfl, Or.inl rfl, trivial⟩, rfl, rfl, rfl, Nat.le_of_ble_eq_true rfl⟩ rfl zC7 rfl rfl dX7_next_157 (fun r_157 w_157 hp => ?_) (fun _ _ h => h.elim)
            obtain ⟨rfl, rfl⟩ := hp
            rw [rhV_p hbz]
            refine z_weq (w' := [zH, zO _ [zr _ _, zr _ _, zr _ _, zr _ _, zr _ _, zi _, zi _, zr _ _, zr _ _], zAi 3 400 _, zH, zH, zH, zH, zH, zH, zH, zH, zH, zH, zH, zH, zH, zH, zH, zH, zH, zH, zH, zO _ [zi _, zr _ _, zi _, zi _, zi _, zi _, zi _, zi _, zr _ _, zi _, zr _ _], zAi 0 12 _, zO _ [zi _, zi _, zr _ _], zAi 0 24 _]) rfl ?_
            refine z_seq (S' := zi _ :: _) rfl ?_
            refine z_bipush F (nI 59) dX7_next_160 rfl ?_
            refine z_icmp_neN F (by omega) (by omega) (tgt := 169) dX7_next_162 (by decide) (fun c_162 => ?_) (fun c_162 => ?_)
            · refine z_iconst F (nI 4) dX7_next_169 rfl ?_
              refine z_put F zC7 (f := 3) rfl (Nat.le_of_ble_eq_true rfl) q565 rfl (fun _ => rfl) (fun _ => rfl) (Nat.le_of_ble_eq_true rfl) dX7_next_170 ?_
              refine z_weq (w' := [_, _, _, _, _, _, _, _, _, _, _, _, _, _, _, _, _, _, _, _, _, _, zO _ [_, _, _, _, _, _, _, _, _, _, _], _, _, _]) rfl ?_
              refine z_aload_n F dX7_next_173 rfl ?_
              refine z_dup F dX7_next_174 rfl ?_
              refine z_get F zC7 (f := 2) rfl (Nat.le_of_ble_eq_true rfl) q564 rfl dX7_next_175 ?_
              refine z_iconst F (nI 1) dX7_next_178 rfl ?_
              refine z_iaddN F dX7_next_179 ?_
              refine z_put F zC7 (f := 2) rfl (Nat.le_of_ble_eq_true rfl) q564 rfl (fun _ => rfl) (fun _ => rfl) (Nat.le_of_ble_eq_true rfl) dX7_next_180 ?_
              refine z_weq (w' := [_, _, _, _, _, _, _, _, _, _, _, _, _, _, _, _, _, _, _, _, _, _, zO _ [_, _, _, _, _, _, _, _, _, _, _], _, _, _]) rfl ?_
              have e2 : kd tb z b = 4 := by unfold kd; rw [if_neg (by omega), if_neg (by rw [c_59]; decide), if_neg (by rw [c_94]; decide), if_neg c_162]
              exact fin (b + 1) 4 u e1.symm e2.symm (by rw [nuV, if_neg (by omega)])
            · refine z_iconst F (nI 3) dX7_next_165 rfl ?_
              refine z_goto F (tgt := 170) dX7_next_166 (by decide) ?_
              refine z_put F zC7 (f := 3) rfl (Nat.le_of_ble_eq_true rfl) q565 rfl (fun _ => rfl) (fun _ => rfl) (Nat.le_of_ble_eq_true rfl) dX7_next_170 ?_
              refine z_weq (w' := [_, _, _, _, _, _, _, _, _, _, _, _, _, _, _, _, _, _, _, _, _, _, zO _ [_, _, _, _, _, _, _, _, _, _, _], _, _, _]) rfl ?_
              refine z_aload_n F dX7_next_173 rfl ?_
              refine z_dup F dX7_next_174 rfl ?_
              refine z_get F zC7 (f := 2) rfl (Nat.le_of_ble_eq_true rfl) q564 rfl dX7_next_175 ?_
              refine z_iconst F (nI 1) dX7_next_178 rfl ?_
              refine z_iaddN F dX7_next_179 ?_
              refine z_put F zC7 (f := 2) rfl (Nat.le_of_ble_eq_true rfl) q564 rfl (fun _ => rfl) (fun _ => rfl) (Nat.le_of_ble_eq_true rfl) dX7_next_180 ?_
              refine z_weq (w' := [_, _, _, _, _, _, _, _, _, _, _, _, _, _, _, _, _, _, _, _, _, _, zO _ [_, _, _, _, _, _, _, _, _, _, _], _, _, _]) rfl ?_
              have e2 : kd tb z b = 3 := by unfold kd; rw [if_neg (by omega), if_neg (by rw [c_59]; decide), if_neg (by rw [c_94]; decide), if_pos c_162]
              exact fin (b + 1) 3 u e1.symm e2.symm (by rw [nuV, if_neg (by omega)])
          · refine z_aload_n F dX7_next_97 rfl ?_
            refine z_iconst F (nI 0) dX7_next_98 rfl ?_
            refine z_put F zC7 (f := 6) rfl (Nat.le_of_ble_eq_true rfl) q569 rfl (fun _ => rfl) (fun _ => rfl) (Nat.le_of_ble_eq_true rfl) dX7_next_99 ?_
            refine z_weq (w' := [_, _, _, _, _, _, _, _, _, _, _, _, _, _, _, _, _, _, _, _, _, _, zO _ [_, _, _, _, _, _, _, _, _, _, _], _, _, _]) rfl ?_
            have hen : rn (fun k => isD (tb k)) z b = en tb z b := by unfold en; rw [if_neg (by omega), if_neg (by rw [c_59]; decide), if_pos c_94]
            have hx := dig_ c_59 c_94 hbz (z + 1) b (by omega) (by omega) (by omega) hen
            rw [Nat.sub_self] at hx
            exact hx
        · have hen : rn (fun k => isL (tb k)) z b = en tb z b := by unfold en; rw [if_neg (by omega), if_pos c_59]
          exact let_ c_59 hbz (z + 1) b (by omega) (by omega) (by omega) hen
      · exact absurd c_44 (nI_ne (by omega))
    · have e1 : en tb z b = b := by unfold en; rw [if_pos (by omega)]
      have e2 : kd tb z b = 0 := by unfold kd; rw [if_pos (by omega)]
      refine z_aload_n F dX7_next_31 rfl ?_
      refine z_aload_n F dX7_next_32 rfl ?_
      refine z_get F zC7 (f := 2) rfl (Nat.le_of_ble_eq_true rfl) q564 rfl dX7_next_33 ?_
      refine z_put F zC7 (f := 4) rfl (Nat.le_of_ble_eq_true rfl) q566 rfl (fun _ => rfl) (fun _ => rfl) (Nat.le_of_ble_eq_true rfl) dX7_next_36 ?_
      refine z_weq (w' := [_, _, _, _, _, _, _, _, _, _, _, _, _, _, _, _, _, _, _, _, _, _, zO _ [_, _, _, _, _, _, _, _, _, _, _], _, _, _]) rfl ?_
      refine z_aload_n F dX7_next_39 rfl ?_
      refine z_callV F (c_hereB t fp T n d f g z b k0 b e0 u m c tb hz hT hb2) 0 rfl (lw_V q605 q607 qs3 q125 q608) (by decide +kernel) ⟨Nat.le_of_ble_eq_true rfl, Nat.le_of_ble_eq_true rfl⟩ ⟨by omega, by omega⟩ [0, 1, 2, 3, 4, 5, 6, 7, 8, 9, 10, 11, 12, 13, 14, 15, 16, 17, 18, 19, 20, 21, 22, 23, 24, 25] 26 ⟨rfl, rfl, rfl, ⟨Or.inl rfl, Or.inr rfl, Or.inr rfl, Or.inl rfl, Or.inl rfl, Or.inl rfl, Or.inl rfl, Or.inl rfl, Or.inl rfl, Or.inl rfl, Or.inl rfl, Or.inl rfl, Or.inl rfl, Or.inl rfl, Or.inl rfl, Or.inl rfl, Or.inl rfl, Or.inl rfl, Or.inl rfl, Or.inl rfl, Or.inl rfl, Or.inl rfl, Or.inr rfl, Or.inr rfl, Or.inr rfl, Or.inr rfl, trivial⟩⟩ (fun h => nomatch h) (Nat.le_of_ble_eq_true rfl) ⟨⟨Or.inr trivial, Or.inl rfl, Or.inl rfl, Or.inr trivial, Or.inr trivial, Or.inr trivial, Or.inr trivial, Or.inr trivial, Or.inr trivial, Or.inr trivial, Or.inr trivial, Or.inr trivial, Or.inr trivial, Or.inr trivial, Or.inr trivial, Or.inr trivial, Or.inr trivial, Or.inr trivial, Or.inr trivial, Or.inr trivial, Or.inr trivial, Or.inr trivial, Or.inl rfl, Or.inl rfl, Or.inl rfl, Or.inl rfl, trivial⟩, rfl, rfl, rfl, Nat.le_of_ble_eq_true rfl⟩ rfl zC7 rfl rfl dX7_next_40 (fun r_40 w_40 hp => ?_) (fun _ _ h => h.elim)
      obtain ⟨rfl, rfl⟩ := hp
      rw [rhV_n hbz]
      refine z_weq (w' := [zH, zO _ [zr _ _, zr _ _, zr _ _, zr _ _, zr _ _, zi _, zi _, zr _ _, zr _ _], zAi 3 400 _, zH, zH, zH, zH, zH, zH, zH, zH, zH, zH, zH, zH, zH, zH, zH, zH, zH, zH, zH, zO _ [zi _, zr _ _, zi _, zi _, zi _, zi _, zi _, zi _, zr _ _, zi _, zr _ _], zAi 0 12 _, zO _ [zi _, zi _, zr _ _], zAi 0 24 _]) rfl ?_
      refine z_seq (S' := zi _ :: _) rfl ?_
      refine z_iconst F (-1) dX7_next_43 rfl ?_
      refine z_icmp_ne F (tgt := 55) dX7_next_44 (by decide) (fun c_44 => ?_) (fun c_44 => ?_)
      · exact absurd rfl c_44
      · refine z_aload_n F dX7_next_47 rfl ?_
        refine z_iconst F (nI 0) dX7_next_48 rfl ?_
        refine z_put F zC7 (f := 3) rfl (Nat.le_of_ble_eq_true rfl) q565 rfl (fun _ => rfl) (fun _ => rfl) (Nat.le_of_ble_eq_true rfl) dX7_next_49 ?_
        refine z_weq (w' := [_, _, _, _, _, _, _, _, _, _, _, _, _, _, _, _, _, _, _, _, _, _, zO _ [_, _, _, _, _, _, _, _, _, _, _], _, _, _]) rfl ?_
        refine z_goto F (tgt := 183) dX7_next_52 (by decide) ?_
        exact fin b 0 u e1.symm e2.symm (by rw [nuV, if_neg (by omega)])
  have spc : ∀ (x q : Nat), z - q < x → q ≤ z → rn (fun k => isS (tb k)) z q = b → Z X [some (zr 22 0)] [] (rWB t fp T n d f g z q k0 b0 e0 u m c) 0 0 0 := by
    intro x
    induction x with
    | zero => intro q hx; omega
    | succ x ih =>
      intro q hx hqz hrn
      have h256 := htb q
      have stop_ : ¬ (q < z ∧ isS (tb q) = true) → q = b := fun w => by rw [← hrn]; exact (rn_stop (p := fun k => isS (tb k)) w).symm
      have nxt : q < z → isS (tb q) = true → Z X [some (zr 22 0)] [] (rWB t fp T n d f g z q k0 b0 e0 u m c) 0 0 18 := by
        intro hq hs
        refine z_aload_n F dX7_next_18 rfl ?_
        refine z_dup F dX7_next_19 rfl ?_
        refine z_get F zC7 (f := 2) rfl (Nat.le_of_ble_eq_true rfl) q564 rfl dX7_next_20 ?_
        refine z_iconst F (nI 1) dX7_next_23 rfl ?_
        refine z_iaddN F dX7_next_24 ?_
        refine z_put F zC7 (f := 2) rfl (Nat.le_of_ble_eq_true rfl) q564 rfl (fun _ => rfl) (fun _ => rfl) (Nat.le_of_ble_eq_true rfl) dX7_next_25 ?_
        refine z_weq (w' := [_, _, _, _, _, _, _, _, _, _, _, _, _, _, _, _, _, _, _, _, _, _, zO _ [_, _, _, _, _, _, _, _, _, _, _], _, _, _]) rfl ?_
        refine z_goto F (tgt := 0) dX7_next_28 (by decide) ?_
        exact ih (q + 1) (by omega) (by omega) (by rw [← hrn]; exact (rn_step (p := fun k => isS (tb k)) hq hs).symm)
      by_cases hq : q < z
      · skip
        refine z_aload_n F dX7_next_0 rfl ?_
        refine z_callV F (c_hereB t fp T n d f g z q k0 b0 e0 u m c tb hz hT hqz) 0 rfl (lw_V q605 q607 qs3 q125 q608) (by decide +kernel) ⟨Nat.le_of_ble_eq_true rfl, Nat.le_of_ble_eq_true rfl⟩ ⟨by omega, by omega⟩ [0, 1, 2, 3, 4, 5, 6, 7, 8, 9, 10, 11, 12, 13, 14, 15, 16, 17, 18, 19, 20, 21, 22, 23, 24, 25] 26 ⟨rfl, rfl, rfl, ⟨Or.inl rfl, Or.inr rfl, Or.inr rfl, Or.inl rfl, Or.inl rfl, Or.inl rfl, Or.inl rfl, Or.inl rfl, Or.inl rfl, Or.inl rfl, Or.inl rfl, Or.inl rfl, Or.inl rfl, Or.inl rfl, Or.inl rfl, Or.inl rfl, Or.inl rfl, Or.inl rfl, Or.inl rfl, Or.inl rfl, Or.inl rfl, Or.inl rfl, Or.inr rfl, Or.inr rfl, Or.inr rfl, Or.inr rfl, trivial⟩⟩ (fun h => nomatch h) (Nat.le_of_ble_eq_true rfl) ⟨⟨Or.inr trivial, Or.inl rfl, Or.inl rfl, Or.inr trivial, Or.inr trivial, Or.inr trivial, Or.inr trivial, Or.inr trivial, Or.inr trivial, Or.inr trivial, Or.inr trivial, Or.inr trivial, Or.inr trivial, Or.inr trivial, Or.inr trivial, Or.inr trivial, Or.inr trivial, Or.inr trivial, Or.inr trivial, Or.inr trivial, Or.inr trivial, Or.inr trivial, Or.inl rfl, Or.inl rfl, Or.inl rfl, Or.inl rfl, trivial⟩, rfl, rfl, rfl, Nat.le_of_ble_eq_true rfl⟩ rfl zC7 rfl rfl dX7_next_1 (fun r_1 w_1 hp => ?_) (fun _ _ h => h.elim)
        obtain ⟨rfl, rfl⟩ := hp
        rw [rhV_p hq]
        refine z_weq (w' := [zH, zO _ [zr _ _, zr _ _, zr _ _, zr _ _, zr _ _, zi _, zi _, zr _ _, zr _ _], zAi 3 400 _, zH, zH, zH, zH, zH, zH, zH, zH, zH, zH, zH, zH, zH, zH, zH, zH, zH, zH, zH, zO _ [zi _, zr _ _, zi _, zi _, zi _, zi _, zi _, zi _, zr _ _, zi _, zr _ _], zAi 0 12 _, zO _ [zi _, zi _, zr _ _], zAi 0 24 _]) rfl ?_
        refine z_seq (S' := zi _ :: _) rfl ?_
        refine z_bipush F (nI 32) dX7_next_4 rfl ?_
        refine z_icmp_eqN F (by omega) (by omega) (tgt := 18) dX7_next_6 (by decide) (fun c_6 => ?_) (fun c_6 => ?_)
        · exact nxt hq (by unfold isS; rw [c_6]; rfl)
        · refine z_aload_n F dX7_next_9 rfl ?_
          refine z_callV F (c_hereB t fp T n d f g z q k0 b0 e0 u m c tb hz hT hqz) 0 rfl (lw_V q605 q607 qs3 q125 q608) (by decide +kernel) ⟨Nat.le_of_ble_eq_true rfl, Nat.le_of_ble_eq_true rfl⟩ ⟨by omega, by omega⟩ [0, 1, 2, 3, 4, 5, 6, 7, 8, 9, 10, 11, 12, 13, 14, 15, 16, 17, 18, 19, 20, 21, 22, 23, 24, 25] 26 ⟨rfl, rfl, rfl, ⟨Or.inl rfl, Or.inr rfl, Or.inr rfl, Or.inl rfl, Or.inl rfl, Or.inl rfl, Or.inl rfl, Or.inl rfl, Or.inl rfl, Or.inl rfl, Or.inl rfl, Or.inl rfl, Or.inl rfl, Or.inl rfl, Or.inl rfl, Or.inl rfl, Or.inl rfl, Or.inl rfl, Or.inl rfl, Or.inl rfl, Or.inl rfl, Or.inl rfl, Or.inr rfl, Or.inr rfl, Or.inr rfl, Or.inr rfl, trivial⟩⟩ (fun h => nomatch h) (Nat.le_of_ble_eq_true rfl) ⟨⟨Or.inr trivial, Or.inl rfl, Or.inl rfl, Or.inr trivial, Or.inr trivial, Or.inr trivial, Or.inr trivial, Or.inr trivial, Or.inr trivial, Or.inr trivial, Or.inr trivial, Or.inr trivial, Or.inr trivial, Or.inr trivial, Or.inr trivial, Or.inr trivial, Or.inr trivial, Or.inr trivial, Or.inr trivial, Or.inr trivial, Or.inr trivial, Or.inr trivial, Or.inl rfl, Or.inl rfl, Or.inl rfl, Or.inl rfl, trivial⟩, rfl, rfl, rfl, Nat.le_of_ble_eq_true rfl⟩ rfl zC7 rfl rfl dX7_next_10 (fun r_10 w_10 hp => ?_) (fun _ _ h => h.elim)
          obtain ⟨rfl, rfl⟩ := hp
          rw [rhV_p hq]
          refine z_weq (w' := [zH, zO _ [zr _ _, zr _ _, zr _ _, zr _ _, zr _ _, zi _, zi _, zr _ _, zr _ _], zAi 3 400 _, zH, zH, zH, zH, zH, zH, zH, zH, zH, zH, zH, zH, zH, zH, zH, zH, zH, zH, zH, zO _ [zi _, zr _ _, zi _, zi _, zi _, zi _, zi _, zi _, zr _ _, zi _, zr _ _], zAi 0 12 _, zO _ [zi _, zi _, zr _ _], zAi 0 24 _]) rfl ?_
          refine z_seq (S' := zi _ :: _) rfl ?_
          refine z_bipush F (nI 10) dX7_next_13 rfl ?_
          refine z_icmp_neN F (by omega) (by omega) (tgt := 31) dX7_next_15 (by decide) (fun c_15 => ?_) (fun c_15 => ?_)
          · have hns : ¬ (q < z ∧ isS (tb q) = true) := fun w => by
              have := w.2
              unfold isS at this
              rw [decide_eq_false c_6, decide_eq_false c_15] at this
              cases this
            have eq_ := stop_ hns
            subst eq_
            exact at31
          · exact nxt hq (by unfold isS; rw [c_15]; rfl)
      · have eq_ := stop_ (fun w => hq w.1)
        refine z_aload_n F dX7_next_0 rfl ?_
        refine z_callV F (c_hereB t fp T n d f g z q k0 b0 e0 u m c tb hz hT hqz) 0 rfl (lw_V q605 q607 qs3 q125 q608) (by decide +kernel) ⟨Nat.le_of_ble_eq_true rfl, Nat.le_of_ble_eq_true rfl⟩ ⟨by omega, by omega⟩ [0, 1, 2, 3, 4, 5, 6, 7, 8, 9, 10, 11, 12, 13, 14, 15, 16, 17, 18, 19, 20, 21, 22, 23, 24, 25] 26 ⟨rfl, rfl, rfl, ⟨Or.inl rfl, Or.inr rfl, Or.inr rfl, Or.inl rfl, Or.inl rfl, Or.inl rfl, Or.inl rfl, Or.inl rfl, Or.inl rfl, Or.inl rfl, Or.inl rfl, Or.inl rfl, Or.inl rfl, Or.inl rfl, Or.inl rfl, Or.inl rfl, Or.inl rfl, Or.inl rfl, Or.inl rfl, Or.inl rfl, Or.inl rfl, Or.inl rfl, Or.inr rfl, Or.inr rfl, Or.inr rfl, Or.inr rfl, trivial⟩⟩ (fun h => nomatch h) (Nat.le_of_ble_eq_true rfl) ⟨⟨Or.inr trivial, Or.inl rfl, Or.inl rfl, Or.inr trivial, Or.inr trivial, Or.inr trivial, Or.inr trivial, Or.inr trivial, Or.inr trivial, Or.inr trivial, Or.inr trivial, Or.inr trivial, Or.inr trivial, Or.inr trivial, Or.inr trivial, Or.inr trivial, Or.inr trivial, Or.inr trivial, Or.inr trivial, Or.inr trivial, Or.inr trivial, Or.inr trivial, Or.inl rfl, Or.inl rfl, Or.inl rfl, Or.inl rfl, trivial⟩, rfl, rfl, rfl, Nat.le_of_ble_eq_true rfl⟩ rfl zC7 rfl rfl dX7_next_1 (fun r_1 w_1 hp => ?_) (fun _ _ h => h.elim)
        obtain ⟨rfl, rfl⟩ := hp
        rw [rhV_n hq]
        refine z_weq (w' := [zH, zO _ [zr _ _, zr _ _, zr _ _, zr _ _, zr _ _, zi _, zi _, zr _ _, zr _ _], zAi 3 400 _, zH, zH, zH, zH, zH, zH, zH, zH, zH, zH, zH, zH, zH, zH, zH, zH, zH, zH, zH, zO _ [zi _, zr _ _, zi _, zi _, zi _, zi _, zi _, zi _, zr _ _, zi _, zr _ _], zAi 0 12 _, zO _ [zi _, zi _, zr _ _], zAi 0 24 _]) rfl ?_
        refine z_seq (S' := zi _ :: _) rfl ?_
        refine z_bipush F (nI 32) dX7_next_4 rfl ?_
        refine z_icmp_eq F (tgt := 18) dX7_next_6 (by decide) (fun c_6 => ?_) (fun c_6 => ?_)
        · exact absurd c_6 (by decide)
        · refine z_aload_n F dX7_next_9 rfl ?_
          refine z_callV F (c_hereB t fp T n d f g z q k0 b0 e0 u m c tb hz hT hqz) 0 rfl (lw_V q605 q607 qs3 q125 q608) (by decide +kernel) ⟨Nat.le_of_ble_eq_true rfl, Nat.le_of_ble_eq_true rfl⟩ ⟨by omega, by omega⟩ [0, 1, 2, 3, 4, 5, 6, 7, 8, 9, 10, 11, 12, 13, 14, 15, 16, 17, 18, 19, 20, 21, 22, 23, 24, 25] 26 ⟨rfl, rfl, rfl, ⟨Or.inl rfl, Or.inr rfl, Or.inr rfl, Or.inl rfl, Or.inl rfl, Or.inl rfl, Or.inl rfl, Or.inl rfl, Or.inl rfl, Or.inl rfl, Or.inl rfl, Or.inl rfl, Or.inl rfl, Or.inl rfl, Or.inl rfl, Or.inl rfl, Or.inl rfl, Or.inl rfl, Or.inl rfl, Or.inl rfl, Or.inl rfl, Or.inl rfl, Or.inr rfl, Or.inr rfl, Or.inr rfl, Or.inr rfl, trivial⟩⟩ (fun h => nomatch h) (Nat.le_of_ble_eq_true rfl) ⟨⟨Or.inr trivial, Or.inl rfl, Or.inl rfl, Or.inr trivial, Or.inr trivial, Or.inr trivial, Or.inr trivial, Or.inr trivial, Or.inr trivial, Or.inr trivial, Or.inr trivial, Or.inr trivial, Or.inr trivial, Or.inr trivial, Or.inr trivial, Or.inr trivial, Or.inr trivial, Or.inr trivial, Or.inr trivial, Or.inr trivial, Or.inr trivial, Or.inr trivial, Or.inl rfl, Or.inl rfl, Or.inl rfl, Or.inl rfl, trivial⟩, rfl, rfl, rfl, Nat.le_of_ble_eq_true rfl⟩ rfl zC7 rfl rfl dX7_next_10 (fun r_10 w_10 hp => ?_) (fun _ _ h => h.elim)
          obtain ⟨rfl, rfl⟩ := hp
          rw [rhV_n hq]
          refine z_weq (w' := [zH, zO _ [zr _ _, zr _ _, zr _ _, zr _ _, zr _ _, zi _, zi _, zr _ _, zr _ _], zAi 3 400 _, zH, zH, zH, zH, zH, zH, zH, zH, zH, zH, zH, zH, zH, zH, zH, zH, zH, zH, zH, zO _ [zi _, zr _ _, zi _, zi _, zi _, zi _, zi _, zi _, zr _ _, zi _, zr _ _], zAi 0 12 _, zO _ [zi _, zi _, zr _ _], zAi 0 24 _]) rfl ?_
          refine z_seq (S' := zi _ :: _) rfl ?_
          refine z_bipush F (nI 10) dX7_next_13 rfl ?_
          refine z_icmp_ne F (tgt := 31) dX7_next_15 (by decide) (fun c_15 => ?_) (fun c_15 => ?_)
          · subst eq_
            exact at31
          · exact absurd c_15 (by decide)
  exact spc (z + 1) p (by omega) hp hb
theorem c_isB (Dg : va_G) (t : Nat) (fp : Int32) (T : Nat → Int32) (n d : Nat) (f : Nat → Int32) (g : Nat → Int32) (z b u m c i : Nat) (tb : Nat → Nat) (hz : z ≤ 400) (hT : tBy T tb z) (hb : b ≤ z) (hi : i < 7) : zCtrD Dg yX7_is cX7_is 3 (some .boolean) 4 0 0 [zr 22 0, zq (Dg.2 1002 (ksI i))] (rWB t fp T n d f g z (en tb z b) (kd tb z b) b (en tb z b) u m c) (fun r w => r = some (zi (bI (isWb tb z b i))) ∧ w = (rWB t fp T n d f g z (en tb z b) (kd tb z b) b (en tb z b) u m c)) zNx := by
  refine z_startD (by decide) [some (zr 22 0), some (zq (Dg.2 1002 (ksI i))), none] rfl (fun _ => Nat.le_of_ble_eq_true rfl) (fun _ => rfl) (fun X hD F E hno hin => ?_)
  subst hD
  have hO := (F.con.2.2.2.2.2.2.2.2.1.1 (ksI i) (ksI_lt hi)).1
  have h6 := kwL_6 i hi
  have hk5 := kd_lt tb z b
  have he := en_ge tb z b
  have he2 := he.2 hb
  have hno : ¬ isW tb z b i → isWb tb z b i = false := fun w => isWb_f.mpr w
  have loop : kd tb z b = 1 → en tb z b - b = kwL i → ∀ (x j : Nat), kwL i - j < x → j ≤ kwL i → (∀ q, q < j → tb (b + q) = kwW i q) → Z X [some (zr 22 0), some (zq (X.2.2.1.2 1002 (ksI i))), some (zi (nI j))] [] (rWB t fp T n d f g z (en tb z b) (kd tb z b) b (en tb z b) u m c) 0 0 28 := by
    intro hk hl x
    induction x with
    | zero => intro j hx; omega
    | succ x ih =>
      intro j hx hj hall_
      have hlt : j < kwL i → kwW i j < 128 := fun w => ks_lt i hi j (by omega)
      have hti : j < kwL i → T (b + j) = nI (tb (b + j)) := fun w => tBy_L hT (by omega) ((tk_L hk).2.2.2 j (by omega))
      have ht1 : j < kwL i → tb (b + j) ≤ 122 := fun w => by
        have := (tk_L hk).2.2.2 j (by omega)
        unfold isL at this
        rw [decide_eq_true_eq] at this
        omega
      refine z_iload_n F dX7_is_28 rfl ?_
      refine z_aloadQ_n F dX7_is_29 rfl ?_
      refine z_callVR F (c_JstrLen _ i hi) 0 rfl (lw_V q630 q631 q632 q127 q633) (by decide +kernel) ⟨Nat.le_of_ble_eq_true rfl, Nat.le_of_ble_eq_true rfl⟩ ⟨by omega, by omega⟩ [0] 26 ⟨rfl, rfl, rfl, ⟨Or.inl rfl, trivial⟩⟩ (fun h => nomatch h) (Nat.le_of_ble_eq_true rfl) ⟨⟨Or.inr trivial, Or.inr rfl, Or.inr trivial, Or.inr trivial, Or.inr trivial, Or.inr trivial, Or.inr trivial, Or.inr trivial, Or.inr trivial, Or.inr trivial, Or.inr trivial, Or.inr trivial, Or.inr trivial, Or.inr trivial, Or.inr trivial, Or.inr trivial, Or.inr trivial, Or.inr trivial, Or.inr trivial, Or.inr trivial, Or.inr trivial, Or.inr trivial, Or.inr rfl, Or.inr trivial, Or.inr rfl, Or.inr trivial, trivial⟩, rfl, rfl, rfl, Nat.le_of_ble_eq_true rfl⟩ rfl (hO) rfl dX7_is_30 (fun r_30 w_30 hp => ?_) (fun _ _ h => h.elim)
      obtain ⟨rfl, rfl⟩ := hp
      refine z_weq (w' := [zH, zO _ [zr _ _, zr _ _, zr _ _, zr _ _, zr _ _, zi _, zi _, zr _ _, zr _ _], zAi 3 400 _, zH, zH, zH, zH, zH, zH, zH, zH, zH, zH, zH, zH, zH, zH, zH, zH, zH, zH, zH, zO _ [zi _, zr _ _, zi _, zi _, zi _, zi _, zi _, zi _, zr _ _, zi _, zr _ _], zAi 0 12 _, zO _ [zi _, zi _, zr _ _], zAi 0 24 _]) rfl ?_
      refine z_seq (S' := zi _ :: _) rfl ?_
      refine z_icmp_geN F (by omega) (by omega) (tgt := 66) dX7_is_33 (by decide) (fun c_33 => ?_) (fun c_33 => ?_)
      · refine z_iconstB F true dX7_is_66 rfl ?_
        exact z_zret F E rfl (bI_nar _) dX7_is_67 (by omega) (by omega) (⟨by rw [isWb_t.mpr ⟨hk, hl, fun q hq => hall_ q (by omega)⟩], rfl⟩)
      · have hc := hlt (by omega)
        have ht2 := ht1 (by omega)
        refine z_aloadQ_n F dX7_is_36 rfl ?_
        refine z_iload_n F dX7_is_37 rfl ?_
        refine z_callVR F (c_JcharAt _ i j hi (by omega)) 1 rfl (lw_V q640 q641 q642 q127 q643) (by decide +kernel) ⟨Nat.le_of_ble_eq_true rfl, Nat.le_of_ble_eq_true rfl⟩ ⟨by omega, by omega⟩ [0] 26 ⟨rfl, rfl, rfl, ⟨Or.inl rfl, trivial⟩⟩ (fun h => nomatch h) (Nat.le_of_ble_eq_true rfl) ⟨⟨Or.inr trivial, Or.inr rfl, Or.inr trivial, Or.inr trivial, Or.inr trivial, Or.inr trivial, Or.inr trivial, Or.inr trivial, Or.inr trivial, Or.inr trivial, Or.inr trivial, Or.inr trivial, Or.inr trivial, Or.inr trivial, Or.inr trivial, Or.inr trivial, Or.inr trivial, Or.inr trivial, Or.inr trivial, Or.inr trivial, Or.inr trivial, Or.inr trivial, Or.inr rfl, Or.inr trivial, Or.inr rfl, Or.inr trivial, trivial⟩, rfl, rfl, rfl, Nat.le_of_ble_eq_true rfl⟩ rfl (hO) rfl dX7_is_38 (fun r_38 w_38 hp => ?_) (fun _ _ h => h.elim)
        obtain ⟨rfl, rfl⟩ := hp
        refine z_weq (w' := [zH, zO _ [zr _ _, zr _ _, zr _ _, zr _ _, zr _ _, zi _, zi _, zr _ _, zr _ _], zAi 3 400 _, zH, zH, zH, zH, zH, zH, zH, zH, zH, zH, zH, zH, zH, zH, zH, zH, zH, zH, zH, zO _ [zi _, zr _ _, zi _, zi _, zi _, zi _, zi _, zi _, zr _ _, zi _, zr _ _], zAi 0 12 _, zO _ [zi _, zi _, zr _ _], zAi 0 24 _]) rfl ?_
        refine z_seq (S' := zi _ :: _) rfl ?_
        refine z_aload_n F dX7_is_41 rfl ?_
        refine z_get F zC7 (f := 10) rfl (Nat.le_of_ble_eq_true rfl) q573 rfl dX7_is_42 ?_
        refine z_getN F zC1 (f := 1) rfl (Nat.le_of_ble_eq_true rfl) q314 rfl dX7_is_45 ?_
        refine z_aload_n F dX7_is_48 rfl ?_
        refine z_get F zC7 (f := 4) rfl (Nat.le_of_ble_eq_true rfl) q566 rfl dX7_is_49 ?_
        refine z_iload_n F dX7_is_52 rfl ?_
        refine z_iaddN F dX7_is_53 ?_
        refine z_baldN F rfl (Nat.le_of_ble_eq_true rfl) (by omega) rfl dX7_is_54 ?_
        refine z_ieq (hti (by omega)) ?_
        refine z_icmp_eqN F (by omega) (by omega) (tgt := 60) dX7_is_55 (by decide) (fun c_55 => ?_) (fun c_55 => ?_)
        · refine z_iincN F 1 dX7_is_60 rfl rfl ?_
          refine z_leq (L' := [_, _, _]) rfl ?_
          refine z_goto F (tgt := 28) dX7_is_63 (by decide) ?_
          exact ih (j + 1) (by omega) (by omega) (fun q hq => by
            by_cases w : q = j
            · rw [w]; omega
            · exact hall_ q (by omega))
        · refine z_iconstB F false dX7_is_58 rfl ?_
          exact z_zret F E rfl (bI_nar _) dX7_is_59 (by omega) (by omega) (⟨by rw [hno (fun w => by have := w.2.2 j (by omega); omega)], rfl⟩)
  refine z_aload_n F dX7_is_0 rfl ?_
  refine z_get F zC7 (f := 3) rfl (Nat.le_of_ble_eq_true rfl) q565 rfl dX7_is_1 ?_
  refine z_iconst F (nI 1) dX7_is_4 rfl ?_
  refine z_icmp_neN F (by omega) (by omega) (tgt := 24) dX7_is_5 (by decide) (fun c_5 => ?_) (fun c_5 => ?_)
  · refine z_iconstB F false dX7_is_24 rfl ?_
    exact z_zret F E rfl (bI_nar _) dX7_is_25 (by omega) (by omega) (⟨by rw [hno (fun w => by have := w.1; omega)], rfl⟩)
  · refine z_aloadQ_n F dX7_is_8 rfl ?_
    refine z_callVR F (c_JstrLen _ i hi) 0 rfl (lw_V q630 q631 q632 q127 q633) (by decide +kernel) ⟨Nat.le_of_ble_eq_true rfl, Nat.le_of_ble_eq_true rfl⟩ ⟨by omega, by omega⟩ [0] 26 ⟨rfl, rfl, rfl, ⟨Or.inl rfl, trivial⟩⟩ (fun h => nomatch h) (Nat.le_of_ble_eq_true rfl) ⟨⟨Or.inr trivial, Or.inr rfl, Or.inr trivial, Or.inr trivial, Or.inr trivial, Or.inr trivial, Or.inr trivial, Or.inr trivial, Or.inr trivial, Or.inr trivial, Or.inr trivial, Or.inr trivial, Or.inr trivial, Or.inr trivial, Or.inr trivial, Or.inr trivial, Or.inr trivial, Or.inr trivial, Or.inr trivial, Or.inr trivial, Or.inr trivial, Or.inr trivial, Or.inr rfl, Or.inr trivial, Or.inr rfl, Or.inr trivial, trivial⟩, rfl, rfl, rfl, Nat.le_of_ble_eq_true rfl⟩ rfl (hO) rfl dX7_is_9 (fun r_9 w_9 hp => ?_) (fun _ _ h => h.elim)
    obtain ⟨rfl, rfl⟩ := hp
    refine z_weq (w' := [zH, zO _ [zr _ _, zr _ _, zr _ _, zr _ _, zr _ _, zi _, zi _, zr _ _, zr _ _], zAi 3 400 _, zH, zH, zH, zH, zH, zH, zH, zH, zH, zH, zH, zH, zH, zH, zH, zH, zH, zH, zH, zO _ [zi _, zr _ _, zi _, zi _, zi _, zi _, zi _, zi _, zr _ _, zi _, zr _ _], zAi 0 12 _, zO _ [zi _, zi _, zr _ _], zAi 0 24 _]) rfl ?_
    refine z_seq (S' := zi _ :: _) rfl ?_
    refine z_aload_n F dX7_is_12 rfl ?_
    refine z_get F zC7 (f := 5) rfl (Nat.le_of_ble_eq_true rfl) q568 rfl dX7_is_13 ?_
    refine z_aload_n F dX7_is_16 rfl ?_
    refine z_get F zC7 (f := 4) rfl (Nat.le_of_ble_eq_true rfl) q566 rfl dX7_is_17 ?_
    refine z_isubN F (by omega) dX7_is_20 ?_
    refine z_icmp_eqN F (by omega) (by omega) (tgt := 26) dX7_is_21 (by decide) (fun c_21 => ?_) (fun c_21 => ?_)
    · refine z_iconst F (nI 0) dX7_is_26 rfl ?_
      refine z_istore_n F dX7_is_27 (Nat.le_of_ble_eq_true rfl) ?_
      refine z_leq (L' := [_, _, _]) rfl ?_
      exact loop (by omega) (by omega) (kwL i + 1) 0 (by omega) (by omega) (fun q hq => absurd hq (by omega))
    · refine z_iconstB F false dX7_is_24 rfl ?_
      exact z_zret F E rfl (bI_nar _) dX7_is_25 (by omega) (by omega) (⟨by rw [hno (fun w => by have := w.2.1; omega)], rfl⟩)
end CA2
