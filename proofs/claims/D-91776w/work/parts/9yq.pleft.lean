/-! falls: WiredNets' own way -/
section C9yq
def po (f : Nat → Int32) (l : List (Nat × Nat)) (o : Option Nat) : Nat → Int32 := match o with
  | none => f
  | some i => pt f (la l i) (lb l i)
def bo (o : Option Nat) : Int32 := match o with
  | none => nI 0
  | some i => b1 i
theorem bo_none (x : Int32) : x &&& (nI 0 ^^^ (-1)) = x := by
  refine b_ext fun i hi => ?_
  rw [b_and, bt_not _ hi, show bt (nI 0) i = false from b_0 i, Bool.not_false, Bool.and_true]
theorem cl_cl (x y : Int32) : (x &&& y) &&& y = x &&& y := by
  refine b_ext fun i hi => ?_
  rw [b_and, b_and, Bool.and_assoc, Bool.and_self]
theorem pt_pt {f : Nat → Int32} {a b : Nat} (ha : a < 32) (hb : b < 32) : pt (pt f a b) a b = pt f a b := by
  funext k
  refine b_ext fun i hi => ?_
  rw [bt_pt ha hb _ hi, bt_pt ha hb _ hi]
  cases bt (f k) i <;> cases (decide (k = a) && decide (i = b)) <;> cases (decide (k = b) && decide (i = a)) <;> rfl
theorem c_xfallN (n d : Int32) (f r0 : Nat → Int32) (N : Nat) (b : Bool) : zCtr yX1_fall cX1_fall 4 none 0 0 0 [zr 1 0, zr 3 0, zi (-1), zi (bI b)] [zH, eNet 2 n d, zAi 0 24 f, zAi 0 N r0] (fun r w => r = none ∧ w = [zH, eNet 2 n d, zAi 0 24 f, zAi 0 N r0]) zNx := by
  refine z_start (by decide) [some (zr 1 0), some (zr 3 0), some (zi (-1)), some (zi (bI b))] rfl (fun _ => Nat.le_of_ble_eq_true rfl) (fun _ => rfl) (fun X F E hno hin => ?_)
  refine z_iload_n F dX1_fall_0 rfl ?_
  refine z_iconst F (-1) dX1_fall_1 rfl ?_
  refine z_icmp_ne F (tgt := 6) dX1_fall_2 (by decide) (fun c_2 => ?_) (fun c_2 => ?_)
  · exact absurd rfl c_2
  · exact z_vret F E rfl dX1_fall_5 (by omega) (by omega) (⟨rfl, rfl⟩)
theorem c_xfallT (n d : Nat) (f : Nat → Int32) (i : Nat) (h : nok n d f) (hi : i < (prs n f).length) (g : Nat → Int32) (b : Bool) : zCtr yX1_fall cX1_fall 4 none 1 0 0 [zr 1 0, zr 3 0, zi (nI i), zi (bI b)] [zH, eNet 2 (nI n) (nI d), zAi 0 24 g, zAi 0 (prs n f).length (rowA (prs n f) (fun _ => 0))] (fun r w => r = none ∧ w = [zH, eNet 2 (nI n) (nI d), zAi 0 24 (if b = true then pt g (la (prs n f) i) (lb (prs n f) i) else jn g (la (prs n f) i) (lb (prs n f) i)), zAi 0 (prs n f).length (rowA (prs n f) (fun _ => 0))]) zNx := by
  refine z_start (by decide) [some (zr 1 0), some (zr 3 0), some (zi (nI i)), some (zi (bI b))] rfl (fun _ => Nat.le_of_ble_eq_true rfl) (fun _ => rfl) (fun X F E hno hin => ?_)
  have hn := h.n24
  have h96 := prs_96 h
  obtain ⟨p1, p2, p3⟩ := prs_at hi
  refine z_iload_n F dX1_fall_0 rfl ?_
  refine z_iconst F (-1) dX1_fall_1 rfl ?_
  refine z_icmp_ne F (tgt := 6) dX1_fall_2 (by decide) (fun c_2 => ?_) (fun c_2 => ?_)
  · refine z_iload_n F dX1_fall_6 rfl ?_
    refine z_if_eqB F (tgt := 28) dX1_fall_7 (by decide) (fun c_7 => ?_) (fun c_7 => ?_)
    · refine z_aload_n F dX1_fall_28 rfl ?_
      refine z_aload_n F dX1_fall_29 rfl ?_
      refine z_iload_n F dX1_fall_30 rfl ?_
      refine z_ialdN F rfl (by omega) (by omega) rfl dX1_fall_31 ?_
      refine z_ieq (rw1 hi) ?_
      refine z_iconst F (nI 5) dX1_fall_32 rfl ?_
      refine z_ishr F dX1_fall_33 ?_
      refine z_ieq (pc_hi (by omega) (by omega)) ?_
      refine z_aload_n F dX1_fall_34 rfl ?_
      refine z_iload_n F dX1_fall_35 rfl ?_
      refine z_ialdN F rfl (by omega) (by omega) rfl dX1_fall_36 ?_
      refine z_ieq (rw1 hi) ?_
      refine z_bipush F (nI 31) dX1_fall_37 rfl ?_
      refine z_iand F dX1_fall_39 ?_
      refine z_ieq (pc_lo (by omega) (by omega)) ?_
      refine z_callV F (c_setj (nI n) (nI d) g (la (prs n f) i) (lb (prs n f) i) (by omega) (by omega)) 2 rfl (lw_V q516 q418 q419 q116 q420) (by decide +kernel) ⟨Nat.le_of_ble_eq_true rfl, Nat.le_of_ble_eq_true rfl⟩ ⟨by omega, by omega⟩ [0, 1, 2] 4 ⟨rfl, rfl, rfl, ⟨Or.inl rfl, Or.inr rfl, Or.inr rfl, trivial⟩⟩ (fun h => nomatch h) (Nat.le_of_ble_eq_true rfl) ⟨⟨Or.inr trivial, Or.inl rfl, Or.inl rfl, Or.inr trivial, trivial⟩, rfl, rfl, rfl, Nat.le_of_ble_eq_true rfl⟩ rfl zC5 rfl rfl dX1_fall_40 (fun r_40 w_40 hp => ?_) (fun _ _ h => h.elim)
      obtain ⟨rfl, rfl⟩ := hp
      refine z_weq (w' := [zH, zO _ [zi _, zi _, zr _ _], zAi 0 24 _, zAi 0 (prs n f).length _]) rfl ?_
      refine z_seq (S' := []) rfl ?_
      exact z_vret F E rfl dX1_fall_43 (by omega) (by omega) (⟨rfl, by rw [c_7, if_neg (by decide)]; rfl⟩)
    · refine z_aload_n F dX1_fall_10 rfl ?_
      refine z_aload_n F dX1_fall_11 rfl ?_
      refine z_iload_n F dX1_fall_12 rfl ?_
      refine z_ialdN F rfl (by omega) (by omega) rfl dX1_fall_13 ?_
      refine z_ieq (rw1 hi) ?_
      refine z_iconst F (nI 5) dX1_fall_14 rfl ?_
      refine z_ishr F dX1_fall_15 ?_
      refine z_ieq (pc_hi (by omega) (by omega)) ?_
      refine z_aload_n F dX1_fall_16 rfl ?_
      refine z_iload_n F dX1_fall_17 rfl ?_
      refine z_ialdN F rfl (by omega) (by omega) rfl dX1_fall_18 ?_
      refine z_ieq (rw1 hi) ?_
      refine z_bipush F (nI 31) dX1_fall_19 rfl ?_
      refine z_iand F dX1_fall_21 ?_
      refine z_ieq (pc_lo (by omega) (by omega)) ?_
      refine z_callV F (c_clear (nI n) (nI d) g (la (prs n f) i) (lb (prs n f) i) (by omega) (by omega)) 2 rfl (lw_V q525 q526 q527 q116 q528) (by decide +kernel) ⟨Nat.le_of_ble_eq_true rfl, Nat.le_of_ble_eq_true rfl⟩ ⟨by omega, by omega⟩ [0, 1, 2] 4 ⟨rfl, rfl, rfl, ⟨Or.inl rfl, Or.inr rfl, Or.inr rfl, trivial⟩⟩ (fun h => nomatch h) (Nat.le_of_ble_eq_true rfl) ⟨⟨Or.inr trivial, Or.inl rfl, Or.inl rfl, Or.inr trivial, trivial⟩, rfl, rfl, rfl, Nat.le_of_ble_eq_true rfl⟩ rfl zC5 rfl rfl dX1_fall_22 (fun r_22 w_22 hp => ?_) (fun _ _ h => h.elim)
      obtain ⟨rfl, rfl⟩ := hp
      refine z_weq (w' := [zH, zO _ [zi _, zi _, zr _ _], zAi 0 24 _, zAi 0 (prs n f).length _]) rfl ?_
      refine z_seq (S' := []) rfl ?_
      refine z_goto F (tgt := 43) dX1_fall_25 (by decide) ?_
      exact z_vret F E rfl dX1_fall_43 (by omega) (by omega) (⟨rfl, by rw [c_7, if_pos rfl]; rfl⟩)
  · exact absurd c_2 (nI_ne (by omega))
theorem c_xleft00 (t : Nat) (fp sn0 g0 sm0 : Int32) (D : Nat → Int32) (n d kind : Nat) (f : Nat → Int32) (h : nok n d f) (hk : kind < 2) : zCtr yX1_left cX1_left 7 (some .int) 4 0 0 [zr 1 0, zr 22 0, zr 24 0, zi (nI kind), zi (-1), zi (-1)] (xBR t fp sn0 g0 sm0 D n d f (prs n f).length (rowA (prs n f) (fun _ => 0))) (fun r w => r = some (zi (nI (cfar n f (allB n)))) ∧ ∃ sn g sm D, w = xBR t fp sn g sm D n d f (prs n f).length (rowA (prs n f) (fun _ => 0))) zNx := by
  refine z_start (by decide) [some (zr 1 0), some (zr 22 0), some (zr 24 0), some (zi (nI kind)), some (zi (-1)), some (zi (-1)), none] rfl (fun _ => Nat.le_of_ble_eq_true rfl) (fun _ => rfl) (fun X F E hno hin => ?_)
  have hn := h.n24
  have h96 := prs_96 h
  have hal : ∀ i, i < 32 → bt (allB n) i = true → i < n := fun i _ q => al_lt hn i q
  refine z_iload_n F dX1_left_0 rfl ?_
  refine z_iconst F (nI 1) dX1_left_1 rfl ?_
  refine z_icmp_neN F (by omega) (by omega) (tgt := 52) dX1_left_2 (by decide) (fun c_2 => ?_) (fun c_2 => ?_)
  · refine z_aload_n F dX1_left_52 rfl ?_
    refine z_aload_n F dX1_left_53 rfl ?_
    refine z_iload F dX1_left_54 rfl ?_
    refine z_iconstB F true dX1_left_56 rfl ?_
    refine z_callS F (c_xfallN (nI n) (nI d) f _ _ true) 4 rfl (lw_S q1075 q1076 q109 q1077) (by decide +kernel) ⟨Nat.le_of_ble_eq_true rfl, Nat.le_of_ble_eq_true rfl⟩ ⟨by omega, by omega⟩ [0, 22, 23, 24] 25 ⟨rfl, rfl, rfl, ⟨Or.inl rfl, Or.inr rfl, Or.inr rfl, Or.inr rfl, trivial⟩⟩ (fun h => nomatch h) (Nat.le_of_ble_eq_true rfl) ⟨⟨Or.inr trivial, Or.inr rfl, Or.inr trivial, Or.inr rfl, Or.inr trivial, Or.inr trivial, Or.inr trivial, Or.inr trivial, Or.inr trivial, Or.inr trivial, Or.inr trivial, Or.inr trivial, Or.inr trivial, Or.inr trivial, Or.inr trivial, Or.inr trivial, Or.inr trivial, Or.inr trivial, Or.inr trivial, Or.inr trivial, Or.inr trivial, Or.inr trivial, Or.inl rfl, Or.inl rfl, Or.inl rfl, trivial⟩, rfl, rfl, rfl, Nat.le_of_ble_eq_true rfl⟩ rfl rfl dX1_left_57 (fun r_57 w_57 hp => ?_) (fun _ _ h => h.elim)
    obtain ⟨rfl, rfl⟩ := hp
    refine z_weq (w' := [zH, zO _ [zr _ _, zr _ _, zr _ _, zr _ _, zr _ _, zi _, zi _, zr _ _, zr _ _], zH, zO _ [zr _ _, zi _, zi _, zi _], zAi 0 24 _, zH, zH, zH, zH, zH, zH, zH, zH, zH, zH, zH, zH, zH, zH, zH, zH, zH, zO _ [zi _, zi _, zr _ _], zAi 0 24 _, zAi 0 (prs n f).length _]) rfl ?_
    refine z_seq (S' := []) rfl ?_
    refine z_aload_n F dX1_left_60 rfl ?_
    refine z_aload_n F dX1_left_61 rfl ?_
    refine z_iload F dX1_left_62 rfl ?_
    refine z_iconstB F true dX1_left_64 rfl ?_
    refine z_callS F (c_xfallN (nI n) (nI d) f _ _ true) 4 rfl (lw_S q1075 q1076 q109 q1077) (by decide +kernel) ⟨Nat.le_of_ble_eq_true rfl, Nat.le_of_ble_eq_true rfl⟩ ⟨by omega, by omega⟩ [0, 22, 23, 24] 25 ⟨rfl, rfl, rfl, ⟨Or.inl rfl, Or.inr rfl, Or.inr rfl, Or.inr rfl, trivial⟩⟩ (fun h => nomatch h) (Nat.le_of_ble_eq_true rfl) ⟨⟨Or.inr trivial, Or.inr rfl, Or.inr trivial, Or.inr rfl, Or.inr trivial, Or.inr trivial, Or.inr trivial, Or.inr trivial, Or.inr trivial, Or.inr trivial, Or.inr trivial, Or.inr trivial, Or.inr trivial, Or.inr trivial, Or.inr trivial, Or.inr trivial, Or.inr trivial, Or.inr trivial, Or.inr trivial, Or.inr trivial, Or.inr trivial, Or.inr trivial, Or.inl rfl, Or.inl rfl, Or.inl rfl, trivial⟩, rfl, rfl, rfl, Nat.le_of_ble_eq_true rfl⟩ rfl rfl dX1_left_65 (fun r_65 w_65 hp => ?_) (fun _ _ h => h.elim)
    obtain ⟨rfl, rfl⟩ := hp
    refine z_weq (w' := [zH, zO _ [zr _ _, zr _ _, zr _ _, zr _ _, zr _ _, zi _, zi _, zr _ _, zr _ _], zH, zO _ [zr _ _, zi _, zi _, zi _], zAi 0 24 _, zH, zH, zH, zH, zH, zH, zH, zH, zH, zH, zH, zH, zH, zH, zH, zH, zH, zO _ [zi _, zi _, zr _ _], zAi 0 24 _, zAi 0 (prs n f).length _]) rfl ?_
    refine z_seq (S' := []) rfl ?_
    refine z_aload_n F dX1_left_68 rfl ?_
    refine z_get F zC1 (f := 2) rfl (Nat.le_of_ble_eq_true rfl) q316 rfl dX1_left_69 ?_
    refine z_aload_n F dX1_left_72 rfl ?_
    refine z_aload_n F dX1_left_73 rfl ?_
    refine z_callV F (c_all n (nI d) hn) 0 rfl (lw_V q822 q800 q801 q116 q802) (by decide +kernel) ⟨Nat.le_of_ble_eq_true rfl, Nat.le_of_ble_eq_true rfl⟩ ⟨by omega, by omega⟩ [0, 22, 23] 25 ⟨rfl, rfl, rfl, ⟨Or.inl rfl, Or.inr rfl, Or.inl rfl, trivial⟩⟩ (fun h => nomatch h) (Nat.le_of_ble_eq_true rfl) ⟨⟨Or.inr trivial, Or.inr rfl, Or.inr trivial, Or.inr rfl, Or.inr trivial, Or.inr trivial, Or.inr trivial, Or.inr trivial, Or.inr trivial, Or.inr trivial, Or.inr trivial, Or.inr trivial, Or.inr trivial, Or.inr trivial, Or.inr trivial, Or.inr trivial, Or.inr trivial, Or.inr trivial, Or.inr trivial, Or.inr trivial, Or.inr trivial, Or.inr trivial, Or.inl rfl, Or.inr trivial, Or.inr trivial, trivial⟩, rfl, rfl, rfl, Nat.le_of_ble_eq_true rfl⟩ rfl zC5 rfl rfl dX1_left_74 (fun r_74 w_74 hp => ?_) (fun _ _ h => h.elim)
    obtain ⟨rfl, rfl⟩ := hp
    refine z_weq (w' := [zH, zO _ [zr _ _, zr _ _, zr _ _, zr _ _, zr _ _, zi _, zi _, zr _ _, zr _ _], zH, zO _ [zr _ _, zi _, zi _, zi _], zAi 0 24 _, zH, zH, zH, zH, zH, zH, zH, zH, zH, zH, zH, zH, zH, zH, zH, zH, zH, zO _ [zi _, zi _, zr _ _], zAi 0 24 _, zAi 0 (prs n f).length _]) rfl ?_
    refine z_seq (S' := zi _ :: _) rfl ?_
    refine z_callV F (c_farthest n (nI d) f (allB n) _ _ _ _ hn hal) 2 rfl (lw_V q823 q824 q825 q110 q826) (by decide +kernel) ⟨Nat.le_of_ble_eq_true rfl, Nat.le_of_ble_eq_true rfl⟩ ⟨by omega, by omega⟩ [0, 3, 4, 22, 23] 25 ⟨rfl, rfl, rfl, ⟨Or.inl rfl, Or.inr rfl, Or.inr rfl, Or.inr rfl, Or.inr rfl, trivial⟩⟩ (fun h => nomatch h) (Nat.le_of_ble_eq_true rfl) ⟨⟨Or.inr trivial, Or.inr rfl, Or.inr trivial, Or.inl rfl, Or.inl rfl, Or.inr trivial, Or.inr trivial, Or.inr trivial, Or.inr trivial, Or.inr trivial, Or.inr trivial, Or.inr trivial, Or.inr trivial, Or.inr trivial, Or.inr trivial, Or.inr trivial, Or.inr trivial, Or.inr trivial, Or.inr trivial, Or.inr trivial, Or.inr trivial, Or.inr trivial, Or.inl rfl, Or.inl rfl, Or.inr trivial, trivial⟩, rfl, rfl, rfl, Nat.le_of_ble_eq_true rfl⟩ rfl zC2 rfl rfl dX1_left_77 (fun r_77 w_77 hp => ?_) (fun _ _ h => h.elim)
    obtain ⟨rfl, sn1, g1, sm1, D1, rfl⟩ := hp
    refine z_weq (w' := [zH, zO _ [zr _ _, zr _ _, zr _ _, zr _ _, zr _ _, zi _, zi _, zr _ _, zr _ _], zH, zO _ [zr _ _, zi _, zi _, zi _], zAi 0 24 _, zH, zH, zH, zH, zH, zH, zH, zH, zH, zH, zH, zH, zH, zH, zH, zH, zH, zO _ [zi _, zi _, zr _ _], zAi 0 24 _, zAi 0 (prs n f).length _]) rfl ?_
    refine z_seq (S' := zi _ :: _) rfl ?_
    refine z_istore F dX1_left_80 (Nat.le_of_ble_eq_true rfl) ?_
    refine z_leq (L' := [_, _, _, _, _, _, _]) rfl ?_
    refine z_aload_n F dX1_left_82 rfl ?_
    refine z_aload_n F dX1_left_83 rfl ?_
    refine z_iload F dX1_left_84 rfl ?_
    refine z_iconstB F false dX1_left_86 rfl ?_
    refine z_callS F (c_xfallN (nI n) (nI d) f _ _ false) 4 rfl (lw_S q1075 q1076 q109 q1077) (by decide +kernel) ⟨Nat.le_of_ble_eq_true rfl, Nat.le_of_ble_eq_true rfl⟩ ⟨by omega, by omega⟩ [0, 22, 23, 24] 25 ⟨rfl, rfl, rfl, ⟨Or.inl rfl, Or.inr rfl, Or.inr rfl, Or.inr rfl, trivial⟩⟩ (fun h => nomatch h) (Nat.le_of_ble_eq_true rfl) ⟨⟨Or.inr trivial, Or.inr rfl, Or.inr trivial, Or.inr rfl, Or.inr trivial, Or.inr trivial, Or.inr trivial, Or.inr trivial, Or.inr trivial, Or.inr trivial, Or.inr trivial, Or.inr trivial, Or.inr trivial, Or.inr trivial, Or.inr trivial, Or.inr trivial, Or.inr trivial, Or.inr trivial, Or.inr trivial, Or.inr trivial, Or.inr trivial, Or.inr trivial, Or.inl rfl, Or.inl rfl, Or.inl rfl, trivial⟩, rfl, rfl, rfl, Nat.le_of_ble_eq_true rfl⟩ rfl rfl dX1_left_87 (fun r_87 w_87 hp => ?_) (fun _ _ h => h.elim)
    obtain ⟨rfl, rfl⟩ := hp
    refine z_weq (w' := [zH, zO _ [zr _ _, zr _ _, zr _ _, zr _ _, zr _ _, zi _, zi _, zr _ _, zr _ _], zH, zO _ [zr _ _, zi _, zi _, zi _], zAi 0 24 _, zH, zH, zH, zH, zH, zH, zH, zH, zH, zH, zH, zH, zH, zH, zH, zH, zH, zO _ [zi _, zi _, zr _ _], zAi 0 24 _, zAi 0 (prs n f).length _]) rfl ?_
    refine z_seq (S' := []) rfl ?_
    refine z_aload_n F dX1_left_90 rfl ?_
    refine z_aload_n F dX1_left_91 rfl ?_
    refine z_iload F dX1_left_92 rfl ?_
    refine z_iconstB F false dX1_left_94 rfl ?_
    refine z_callS F (c_xfallN (nI n) (nI d) f _ _ false) 4 rfl (lw_S q1075 q1076 q109 q1077) (by decide +kernel) ⟨Nat.le_of_ble_eq_true rfl, Nat.le_of_ble_eq_true rfl⟩ ⟨by omega, by omega⟩ [0, 22, 23, 24] 25 ⟨rfl, rfl, rfl, ⟨Or.inl rfl, Or.inr rfl, Or.inr rfl, Or.inr rfl, trivial⟩⟩ (fun h => nomatch h) (Nat.le_of_ble_eq_true rfl) ⟨⟨Or.inr trivial, Or.inr rfl, Or.inr trivial, Or.inr rfl, Or.inr trivial, Or.inr trivial, Or.inr trivial, Or.inr trivial, Or.inr trivial, Or.inr trivial, Or.inr trivial, Or.inr trivial, Or.inr trivial, Or.inr trivial, Or.inr trivial, Or.inr trivial, Or.inr trivial, Or.inr trivial, Or.inr trivial, Or.inr trivial, Or.inr trivial, Or.inr trivial, Or.inl rfl, Or.inl rfl, Or.inl rfl, trivial⟩, rfl, rfl, rfl, Nat.le_of_ble_eq_true rfl⟩ rfl rfl dX1_left_95 (fun r_95 w_95 hp => ?_) (fun _ _ h => h.elim)
    obtain ⟨rfl, rfl⟩ := hp
    refine z_weq (w' := [zH, zO _ [zr _ _, zr _ _, zr _ _, zr _ _, zr _ _, zi _, zi _, zr _ _, zr _ _], zH, zO _ [zr _ _, zi _, zi _, zi _], zAi 0 24 _, zH, zH, zH, zH, zH, zH, zH, zH, zH, zH, zH, zH, zH, zH, zH, zH, zH, zO _ [zi _, zi _, zr _ _], zAi 0 24 _, zAi 0 (prs n f).length _]) rfl ?_
    refine z_seq (S' := []) rfl ?_
    refine z_iload F dX1_left_98 rfl ?_
    exact z_iret F E rfl dX1_left_100 (by omega) (by omega) (⟨by rw [show cfar n f (allB n) = cfar n f (allB n) from rfl], _, _, _, _, rfl⟩)
  · refine z_aload_n F dX1_left_5 rfl ?_
    refine z_get F zC1 (f := 2) rfl (Nat.le_of_ble_eq_true rfl) q316 rfl dX1_left_6 ?_
    refine z_aload_n F dX1_left_9 rfl ?_
    refine z_aload_n F dX1_left_10 rfl ?_
    refine z_callV F (c_all n (nI d) hn) 0 rfl (lw_V q822 q800 q801 q116 q802) (by decide +kernel) ⟨Nat.le_of_ble_eq_true rfl, Nat.le_of_ble_eq_true rfl⟩ ⟨by omega, by omega⟩ [0, 22, 23] 25 ⟨rfl, rfl, rfl, ⟨Or.inl rfl, Or.inr rfl, Or.inl rfl, trivial⟩⟩ (fun h => nomatch h) (Nat.le_of_ble_eq_true rfl) ⟨⟨Or.inr trivial, Or.inr rfl, Or.inr trivial, Or.inr rfl, Or.inr trivial, Or.inr trivial, Or.inr trivial, Or.inr trivial, Or.inr trivial, Or.inr trivial, Or.inr trivial, Or.inr trivial, Or.inr trivial, Or.inr trivial, Or.inr trivial, Or.inr trivial, Or.inr trivial, Or.inr trivial, Or.inr trivial, Or.inr trivial, Or.inr trivial, Or.inr trivial, Or.inl rfl, Or.inr trivial, Or.inr trivial, trivial⟩, rfl, rfl, rfl, Nat.le_of_ble_eq_true rfl⟩ rfl zC5 rfl rfl dX1_left_11 (fun r_11 w_11 hp => ?_) (fun _ _ h => h.elim)
    obtain ⟨rfl, rfl⟩ := hp
    refine z_weq (w' := [zH, zO _ [zr _ _, zr _ _, zr _ _, zr _ _, zr _ _, zi _, zi _, zr _ _, zr _ _], zH, zO _ [zr _ _, zi _, zi _, zi _], zAi 0 24 _, zH, zH, zH, zH, zH, zH, zH, zH, zH, zH, zH, zH, zH, zH, zH, zH, zH, zO _ [zi _, zi _, zr _ _], zAi 0 24 _, zAi 0 (prs n f).length _]) rfl ?_
    refine z_seq (S' := zi _ :: _) rfl ?_
    refine z_iload F dX1_left_14 rfl ?_
    refine z_iconst F (-1) dX1_left_16 rfl ?_
    refine z_icmp_ne F (tgt := 24) dX1_left_17 (by decide) (fun c_17 => ?_) (fun c_17 => ?_)
    · exact absurd rfl c_17
    · refine z_iconst F (nI 0) dX1_left_20 rfl ?_
      refine z_goto F (tgt := 28) dX1_left_21 (by decide) ?_
      refine z_iconst F (-1) dX1_left_28 rfl ?_
      refine z_ixor F dX1_left_29 ?_
      refine z_iand F dX1_left_30 ?_
      refine z_iload F dX1_left_31 rfl ?_
      refine z_iconst F (-1) dX1_left_33 rfl ?_
      refine z_icmp_ne F (tgt := 41) dX1_left_34 (by decide) (fun c_34 => ?_) (fun c_34 => ?_)
      · exact absurd rfl c_34
      · refine z_iconst F (nI 0) dX1_left_37 rfl ?_
        refine z_goto F (tgt := 45) dX1_left_38 (by decide) ?_
        refine z_iconst F (-1) dX1_left_45 rfl ?_
        refine z_ixor F dX1_left_46 ?_
        refine z_iand F dX1_left_47 ?_
        refine z_ieq ((bo_none _).trans (bo_none _)) ?_
        refine z_callV F (c_farthest n (nI d) f (allB n) _ _ _ _ hn (hal)) 2 rfl (lw_V q823 q824 q825 q110 q826) (by decide +kernel) ⟨Nat.le_of_ble_eq_true rfl, Nat.le_of_ble_eq_true rfl⟩ ⟨by omega, by omega⟩ [0, 3, 4, 22, 23] 25 ⟨rfl, rfl, rfl, ⟨Or.inl rfl, Or.inr rfl, Or.inr rfl, Or.inr rfl, Or.inr rfl, trivial⟩⟩ (fun h => nomatch h) (Nat.le_of_ble_eq_true rfl) ⟨⟨Or.inr trivial, Or.inr rfl, Or.inr trivial, Or.inl rfl, Or.inl rfl, Or.inr trivial, Or.inr trivial, Or.inr trivial, Or.inr trivial, Or.inr trivial, Or.inr trivial, Or.inr trivial, Or.inr trivial, Or.inr trivial, Or.inr trivial, Or.inr trivial, Or.inr trivial, Or.inr trivial, Or.inr trivial, Or.inr trivial, Or.inr trivial, Or.inr trivial, Or.inl rfl, Or.inl rfl, Or.inr trivial, trivial⟩, rfl, rfl, rfl, Nat.le_of_ble_eq_true rfl⟩ rfl zC2 rfl rfl dX1_left_48 (fun r_48 w_48 hp => ?_) (fun _ _ h => h.elim)
        obtain ⟨rfl, sn1, g1, sm1, D1, rfl⟩ := hp
        refine z_weq (w' := [zH, zO _ [zr _ _, zr _ _, zr _ _, zr _ _, zr _ _, zi _, zi _, zr _ _, zr _ _], zH, zO _ [zr _ _, zi _, zi _, zi _], zAi 0 24 _, zH, zH, zH, zH, zH, zH, zH, zH, zH, zH, zH, zH, zH, zH, zH, zH, zH, zO _ [zi _, zi _, zr _ _], zAi 0 24 _, zAi 0 (prs n f).length _]) rfl ?_
        refine z_seq (S' := zi _ :: _) rfl ?_
        exact z_iret F E rfl dX1_left_51 (by omega) (by omega) (⟨by rw [show cfar n f (allB n) = cfar n f (allB n) from rfl], sn1, g1, sm1, D1, rfl⟩)
theorem c_xleft10 (t : Nat) (fp sn0 g0 sm0 : Int32) (D : Nat → Int32) (n d kind : Nat) (f : Nat → Int32) (i : Nat) (hi : i < flN kind n f) (h : nok n d f) (hk : kind < 2) : zCtr yX1_left cX1_left 7 (some .int) 4 0 0 [zr 1 0, zr 22 0, zr 24 0, zi (nI kind), zi (nI i), zi (-1)] (xBR t fp sn0 g0 sm0 D n d f (prs n f).length (rowA (prs n f) (fun _ => 0))) (fun r w => r = some (zi (nI (flV n f kind i i))) ∧ ∃ sn g sm D, w = xBR t fp sn g sm D n d f (prs n f).length (rowA (prs n f) (fun _ => 0))) zNx := by
  refine z_start (by decide) [some (zr 1 0), some (zr 22 0), some (zr 24 0), some (zi (nI kind)), some (zi (nI i)), some (zi (-1)), none] rfl (fun _ => Nat.le_of_ble_eq_true rfl) (fun _ => rfl) (fun X F E hno hin => ?_)
  have hn := h.n24
  have h96 := prs_96 h
  have hal : ∀ i, i < 32 → bt (allB n) i = true → i < n := fun i _ q => al_lt hn i q
  have hln : kind = 0 → i < (prs n f).length := fun e => by
    unfold flN at hi; rw [if_pos e] at hi; exact hi
  have hkn : kind = 1 → i < n := fun e => by
    unfold flN at hi; rw [if_neg (by omega)] at hi; exact hi
  have hi96 : i < 97 := by
    rcases (show kind = 0 ∨ kind = 1 by omega) with e | e
    · have := hln e; omega
    · have := hkn e; omega
  refine z_iload_n F dX1_left_0 rfl ?_
  refine z_iconst F (nI 1) dX1_left_1 rfl ?_
  refine z_icmp_neN F (by omega) (by omega) (tgt := 52) dX1_left_2 (by decide) (fun c_2 => ?_) (fun c_2 => ?_)
  · obtain ⟨p1, p2, p3⟩ := prs_at (hln (by omega))
    have p4 : bt (f (lb (prs n f) i)) (la (prs n f) i) = true := by rw [← h.sym (by omega) p2]; exact p3
    have ev : flV n f kind i i = cfar n (pt f (la (prs n f) i) (lb (prs n f) i)) (allB n) := by
      rw [flV, if_neg (by omega), ptp, pt_pt (by omega) (by omega)]
    have hr : jn (pt f (la (prs n f) i) (lb (prs n f) i)) (la (prs n f) i) (lb (prs n f) i) = f := jn_pt (by omega) (by omega) (by omega) p3 p4
    refine z_aload_n F dX1_left_52 rfl ?_
    refine z_aload_n F dX1_left_53 rfl ?_
    refine z_iload F dX1_left_54 rfl ?_
    refine z_iconstB F true dX1_left_56 rfl ?_
    refine z_callS F (c_xfallT n d f i h (hln (by omega)) f true) 4 rfl (lw_S q1075 q1076 q109 q1077) (by decide +kernel) ⟨Nat.le_of_ble_eq_true rfl, Nat.le_of_ble_eq_true rfl⟩ ⟨by omega, by omega⟩ [0, 22, 23, 24] 25 ⟨rfl, rfl, rfl, ⟨Or.inl rfl, Or.inr rfl, Or.inr rfl, Or.inr rfl, trivial⟩⟩ (fun h => nomatch h) (Nat.le_of_ble_eq_true rfl) ⟨⟨Or.inr trivial, Or.inr rfl, Or.inr trivial, Or.inr rfl, Or.inr trivial, Or.inr trivial, Or.inr trivial, Or.inr trivial, Or.inr trivial, Or.inr trivial, Or.inr trivial, Or.inr trivial, Or.inr trivial, Or.inr trivial, Or.inr trivial, Or.inr trivial, Or.inr trivial, Or.inr trivial, Or.inr trivial, Or.inr trivial, Or.inr trivial, Or.inr trivial, Or.inl rfl, Or.inl rfl, Or.inl rfl, trivial⟩, rfl, rfl, rfl, Nat.le_of_ble_eq_true rfl⟩ rfl rfl dX1_left_57 (fun r_57 w_57 hp => ?_) (fun _ _ h => h.elim)
    obtain ⟨rfl, rfl⟩ := hp
    rw [if_pos rfl]
    refine z_weq (w' := [zH, zO _ [zr _ _, zr _ _, zr _ _, zr _ _, zr _ _, zi _, zi _, zr _ _, zr _ _], zH, zO _ [zr _ _, zi _, zi _, zi _], zAi 0 24 _, zH, zH, zH, zH, zH, zH, zH, zH, zH, zH, zH, zH, zH, zH, zH, zH, zH, zO _ [zi _, zi _, zr _ _], zAi 0 24 _, zAi 0 (prs n f).length _]) rfl ?_
    refine z_seq (S' := []) rfl ?_
    refine z_aload_n F dX1_left_60 rfl ?_
    refine z_aload_n F dX1_left_61 rfl ?_
    refine z_iload F dX1_left_62 rfl ?_
    refine z_iconstB F true dX1_left_64 rfl ?_
    refine z_callS F (c_xfallN (nI n) (nI d) (pt f (la (prs n f) i) (lb (prs n f) i)) _ _ true) 4 rfl (lw_S q1075 q1076 q109 q1077) (by decide +kernel) ⟨Nat.le_of_ble_eq_true rfl, Nat.le_of_ble_eq_true rfl⟩ ⟨by omega, by omega⟩ [0, 22, 23, 24] 25 ⟨rfl, rfl, rfl, ⟨Or.inl rfl, Or.inr rfl, Or.inr rfl, Or.inr rfl, trivial⟩⟩ (fun h => nomatch h) (Nat.le_of_ble_eq_true rfl) ⟨⟨Or.inr trivial, Or.inr rfl, Or.inr trivial, Or.inr rfl, Or.inr trivial, Or.inr trivial, Or.inr trivial, Or.inr trivial, Or.inr trivial, Or.inr trivial, Or.inr trivial, Or.inr trivial, Or.inr trivial, Or.inr trivial, Or.inr trivial, Or.inr trivial, Or.inr trivial, Or.inr trivial, Or.inr trivial, Or.inr trivial, Or.inr trivial, Or.inr trivial, Or.inl rfl, Or.inl rfl, Or.inl rfl, trivial⟩, rfl, rfl, rfl, Nat.le_of_ble_eq_true rfl⟩ rfl rfl dX1_left_65 (fun r_65 w_65 hp => ?_) (fun _ _ h => h.elim)
    obtain ⟨rfl, rfl⟩ := hp
    refine z_weq (w' := [zH, zO _ [zr _ _, zr _ _, zr _ _, zr _ _, zr _ _, zi _, zi _, zr _ _, zr _ _], zH, zO _ [zr _ _, zi _, zi _, zi _], zAi 0 24 _, zH, zH, zH, zH, zH, zH, zH, zH, zH, zH, zH, zH, zH, zH, zH, zH, zH, zO _ [zi _, zi _, zr _ _], zAi 0 24 _, zAi 0 (prs n f).length _]) rfl ?_
    refine z_seq (S' := []) rfl ?_
    refine z_aload_n F dX1_left_68 rfl ?_
    refine z_get F zC1 (f := 2) rfl (Nat.le_of_ble_eq_true rfl) q316 rfl dX1_left_69 ?_
    refine z_aload_n F dX1_left_72 rfl ?_
    refine z_aload_n F dX1_left_73 rfl ?_
    refine z_callV F (c_all n (nI d) hn) 0 rfl (lw_V q822 q800 q801 q116 q802) (by decide +kernel) ⟨Nat.le_of_ble_eq_true rfl, Nat.le_of_ble_eq_true rfl⟩ ⟨by omega, by omega⟩ [0, 22, 23] 25 ⟨rfl, rfl, rfl, ⟨Or.inl rfl, Or.inr rfl, Or.inl rfl, trivial⟩⟩ (fun h => nomatch h) (Nat.le_of_ble_eq_true rfl) ⟨⟨Or.inr trivial, Or.inr rfl, Or.inr trivial, Or.inr rfl, Or.inr trivial, Or.inr trivial, Or.inr trivial, Or.inr trivial, Or.inr trivial, Or.inr trivial, Or.inr trivial, Or.inr trivial, Or.inr trivial, Or.inr trivial, Or.inr trivial, Or.inr trivial, Or.inr trivial, Or.inr trivial, Or.inr trivial, Or.inr trivial, Or.inr trivial, Or.inr trivial, Or.inl rfl, Or.inr trivial, Or.inr trivial, trivial⟩, rfl, rfl, rfl, Nat.le_of_ble_eq_true rfl⟩ rfl zC5 rfl rfl dX1_left_74 (fun r_74 w_74 hp => ?_) (fun _ _ h => h.elim)
    obtain ⟨rfl, rfl⟩ := hp
    refine z_weq (w' := [zH, zO _ [zr _ _, zr _ _, zr _ _, zr _ _, zr _ _, zi _, zi _, zr _ _, zr _ _], zH, zO _ [zr _ _, zi _, zi _, zi _], zAi 0 24 _, zH, zH, zH, zH, zH, zH, zH, zH, zH, zH, zH, zH, zH, zH, zH, zH, zH, zO _ [zi _, zi _, zr _ _], zAi 0 24 _, zAi 0 (prs n f).length _]) rfl ?_
    refine z_seq (S' := zi _ :: _) rfl ?_
    refine z_callV F (c_farthest n (nI d) (pt f (la (prs n f) i) (lb (prs n f) i)) (allB n) _ _ _ _ hn hal) 2 rfl (lw_V q823 q824 q825 q110 q826) (by decide +kernel) ⟨Nat.le_of_ble_eq_true rfl, Nat.le_of_ble_eq_true rfl⟩ ⟨by omega, by omega⟩ [0, 3, 4, 22, 23] 25 ⟨rfl, rfl, rfl, ⟨Or.inl rfl, Or.inr rfl, Or.inr rfl, Or.inr rfl, Or.inr rfl, trivial⟩⟩ (fun h => nomatch h) (Nat.le_of_ble_eq_true rfl) ⟨⟨Or.inr trivial, Or.inr rfl, Or.inr trivial, Or.inl rfl, Or.inl rfl, Or.inr trivial, Or.inr trivial, Or.inr trivial, Or.inr trivial, Or.inr trivial, Or.inr trivial, Or.inr trivial, Or.inr trivial, Or.inr trivial, Or.inr trivial, Or.inr trivial, Or.inr trivial, Or.inr trivial, Or.inr trivial, Or.inr trivial, Or.inr trivial, Or.inr trivial, Or.inl rfl, Or.inl rfl, Or.inr trivial, trivial⟩, rfl, rfl, rfl, Nat.le_of_ble_eq_true rfl⟩ rfl zC2 rfl rfl dX1_left_77 (fun r_77 w_77 hp => ?_) (fun _ _ h => h.elim)
    obtain ⟨rfl, sn1, g1, sm1, D1, rfl⟩ := hp
    refine z_weq (w' := [zH, zO _ [zr _ _, zr _ _, zr _ _, zr _ _, zr _ _, zi _, zi _, zr _ _, zr _ _], zH, zO _ [zr _ _, zi _, zi _, zi _], zAi 0 24 _, zH, zH, zH, zH, zH, zH, zH, zH, zH, zH, zH, zH, zH, zH, zH, zH, zH, zO _ [zi _, zi _, zr _ _], zAi 0 24 _, zAi 0 (prs n f).length _]) rfl ?_
    refine z_seq (S' := zi _ :: _) rfl ?_
    refine z_istore F dX1_left_80 (Nat.le_of_ble_eq_true rfl) ?_
    refine z_leq (L' := [_, _, _, _, _, _, _]) rfl ?_
    refine z_aload_n F dX1_left_82 rfl ?_
    refine z_aload_n F dX1_left_83 rfl ?_
    refine z_iload F dX1_left_84 rfl ?_
    refine z_iconstB F false dX1_left_86 rfl ?_
    refine z_callS F (c_xfallT n d f i h (hln (by omega)) (pt f (la (prs n f) i) (lb (prs n f) i)) false) 4 rfl (lw_S q1075 q1076 q109 q1077) (by decide +kernel) ⟨Nat.le_of_ble_eq_true rfl, Nat.le_of_ble_eq_true rfl⟩ ⟨by omega, by omega⟩ [0, 22, 23, 24] 25 ⟨rfl, rfl, rfl, ⟨Or.inl rfl, Or.inr rfl, Or.inr rfl, Or.inr rfl, trivial⟩⟩ (fun h => nomatch h) (Nat.le_of_ble_eq_true rfl) ⟨⟨Or.inr trivial, Or.inr rfl, Or.inr trivial, Or.inr rfl, Or.inr trivial, Or.inr trivial, Or.inr trivial, Or.inr trivial, Or.inr trivial, Or.inr trivial, Or.inr trivial, Or.inr trivial, Or.inr trivial, Or.inr trivial, Or.inr trivial, Or.inr trivial, Or.inr trivial, Or.inr trivial, Or.inr trivial, Or.inr trivial, Or.inr trivial, Or.inr trivial, Or.inl rfl, Or.inl rfl, Or.inl rfl, trivial⟩, rfl, rfl, rfl, Nat.le_of_ble_eq_true rfl⟩ rfl rfl dX1_left_87 (fun r_87 w_87 hp => ?_) (fun _ _ h => h.elim)
    obtain ⟨rfl, rfl⟩ := hp
    rw [if_neg (by decide), hr]
    refine z_weq (w' := [zH, zO _ [zr _ _, zr _ _, zr _ _, zr _ _, zr _ _, zi _, zi _, zr _ _, zr _ _], zH, zO _ [zr _ _, zi _, zi _, zi _], zAi 0 24 _, zH, zH, zH, zH, zH, zH, zH, zH, zH, zH, zH, zH, zH, zH, zH, zH, zH, zO _ [zi _, zi _, zr _ _], zAi 0 24 _, zAi 0 (prs n f).length _]) rfl ?_
    refine z_seq (S' := []) rfl ?_
    refine z_aload_n F dX1_left_90 rfl ?_
    refine z_aload_n F dX1_left_91 rfl ?_
    refine z_iload F dX1_left_92 rfl ?_
    refine z_iconstB F false dX1_left_94 rfl ?_
    refine z_callS F (c_xfallN (nI n) (nI d) f _ _ false) 4 rfl (lw_S q1075 q1076 q109 q1077) (by decide +kernel) ⟨Nat.le_of_ble_eq_true rfl, Nat.le_of_ble_eq_true rfl⟩ ⟨by omega, by omega⟩ [0, 22, 23, 24] 25 ⟨rfl, rfl, rfl, ⟨Or.inl rfl, Or.inr rfl, Or.inr rfl, Or.inr rfl, trivial⟩⟩ (fun h => nomatch h) (Nat.le_of_ble_eq_true rfl) ⟨⟨Or.inr trivial, Or.inr rfl, Or.inr trivial, Or.inr rfl, Or.inr trivial, Or.inr trivial, Or.inr trivial, Or.inr trivial, Or.inr trivial, Or.inr trivial, Or.inr trivial, Or.inr trivial, Or.inr trivial, Or.inr trivial, Or.inr trivial, Or.inr trivial, Or.inr trivial, Or.inr trivial, Or.inr trivial, Or.inr trivial, Or.inr trivial, Or.inr trivial, Or.inl rfl, Or.inl rfl, Or.inl rfl, trivial⟩, rfl, rfl, rfl, Nat.le_of_ble_eq_true rfl⟩ rfl rfl dX1_left_95 (fun r_95 w_95 hp => ?_) (fun _ _ h => h.elim)
    obtain ⟨rfl, rfl⟩ := hp
    refine z_weq (w' := [zH, zO _ [zr _ _, zr _ _, zr _ _, zr _ _, zr _ _, zi _, zi _, zr _ _, zr _ _], zH, zO _ [zr _ _, zi _, zi _, zi _], zAi 0 24 _, zH, zH, zH, zH, zH, zH, zH, zH, zH, zH, zH, zH, zH, zH, zH, zH, zH, zO _ [zi _, zi _, zr _ _], zAi 0 24 _, zAi 0 (prs n f).length _]) rfl ?_
    refine z_seq (S' := []) rfl ?_
    refine z_iload F dX1_left_98 rfl ?_
    exact z_iret F E rfl dX1_left_100 (by omega) (by omega) (⟨by rw [ev], _, _, _, _, rfl⟩)
  · have hin := hkn (by omega)
    have ev : flV n f kind i i = cfar n f (allB n &&& (b1 i ^^^ (-1))) := by
      rw [flV, if_pos (by omega), stp, cl_cl]
    refine z_aload_n F dX1_left_5 rfl ?_
    refine z_get F zC1 (f := 2) rfl (Nat.le_of_ble_eq_true rfl) q316 rfl dX1_left_6 ?_
    refine z_aload_n F dX1_left_9 rfl ?_
    refine z_aload_n F dX1_left_10 rfl ?_
    refine z_callV F (c_all n (nI d) hn) 0 rfl (lw_V q822 q800 q801 q116 q802) (by decide +kernel) ⟨Nat.le_of_ble_eq_true rfl, Nat.le_of_ble_eq_true rfl⟩ ⟨by omega, by omega⟩ [0, 22, 23] 25 ⟨rfl, rfl, rfl, ⟨Or.inl rfl, Or.inr rfl, Or.inl rfl, trivial⟩⟩ (fun h => nomatch h) (Nat.le_of_ble_eq_true rfl) ⟨⟨Or.inr trivial, Or.inr rfl, Or.inr trivial, Or.inr rfl, Or.inr trivial, Or.inr trivial, Or.inr trivial, Or.inr trivial, Or.inr trivial, Or.inr trivial, Or.inr trivial, Or.inr trivial, Or.inr trivial, Or.inr trivial, Or.inr trivial, Or.inr trivial, Or.inr trivial, Or.inr trivial, Or.inr trivial, Or.inr trivial, Or.inr trivial, Or.inr trivial, Or.inl rfl, Or.inr trivial, Or.inr trivial, trivial⟩, rfl, rfl, rfl, Nat.le_of_ble_eq_true rfl⟩ rfl zC5 rfl rfl dX1_left_11 (fun r_11 w_11 hp => ?_) (fun _ _ h => h.elim)
    obtain ⟨rfl, rfl⟩ := hp
    refine z_weq (w' := [zH, zO _ [zr _ _, zr _ _, zr _ _, zr _ _, zr _ _, zi _, zi _, zr _ _, zr _ _], zH, zO _ [zr _ _, zi _, zi _, zi _], zAi 0 24 _, zH, zH, zH, zH, zH, zH, zH, zH, zH, zH, zH, zH, zH, zH, zH, zH, zH, zO _ [zi _, zi _, zr _ _], zAi 0 24 _, zAi 0 (prs n f).length _]) rfl ?_
    refine z_seq (S' := zi _ :: _) rfl ?_
    refine z_iload F dX1_left_14 rfl ?_
    refine z_iconst F (-1) dX1_left_16 rfl ?_
    refine z_icmp_ne F (tgt := 24) dX1_left_17 (by decide) (fun c_17 => ?_) (fun c_17 => ?_)
    · refine z_iconst F (nI 1) dX1_left_24 rfl ?_
      refine z_iload F dX1_left_25 rfl ?_
      refine z_ishlB F dX1_left_27 ?_
      refine z_iconst F (-1) dX1_left_28 rfl ?_
      refine z_ixor F dX1_left_29 ?_
      refine z_iand F dX1_left_30 ?_
      refine z_iload F dX1_left_31 rfl ?_
      refine z_iconst F (-1) dX1_left_33 rfl ?_
      refine z_icmp_ne F (tgt := 41) dX1_left_34 (by decide) (fun c_34 => ?_) (fun c_34 => ?_)
      · exact absurd rfl c_34
      · refine z_iconst F (nI 0) dX1_left_37 rfl ?_
        refine z_goto F (tgt := 45) dX1_left_38 (by decide) ?_
        refine z_iconst F (-1) dX1_left_45 rfl ?_
        refine z_ixor F dX1_left_46 ?_
        refine z_iand F dX1_left_47 ?_
        refine z_ieq (bo_none _) ?_
        refine z_callV F (c_farthest n (nI d) f (allB n &&& (b1 i ^^^ (-1))) _ _ _ _ hn (fun k hk1 hk2 => by rw [b_and, Bool.and_eq_true] at hk2; exact al_lt hn k hk2.1)) 2 rfl (lw_V q823 q824 q825 q110 q826) (by decide +kernel) ⟨Nat.le_of_ble_eq_true rfl, Nat.le_of_ble_eq_true rfl⟩ ⟨by omega, by omega⟩ [0, 3, 4, 22, 23] 25 ⟨rfl, rfl, rfl, ⟨Or.inl rfl, Or.inr rfl, Or.inr rfl, Or.inr rfl, Or.inr rfl, trivial⟩⟩ (fun h => nomatch h) (Nat.le_of_ble_eq_true rfl) ⟨⟨Or.inr trivial, Or.inr rfl, Or.inr trivial, Or.inl rfl, Or.inl rfl, Or.inr trivial, Or.inr trivial, Or.inr trivial, Or.inr trivial, Or.inr trivial, Or.inr trivial, Or.inr trivial, Or.inr trivial, Or.inr trivial, Or.inr trivial, Or.inr trivial, Or.inr trivial, Or.inr trivial, Or.inr trivial, Or.inr trivial, Or.inr trivial, Or.inr trivial, Or.inl rfl, Or.inl rfl, Or.inr trivial, trivial⟩, rfl, rfl, rfl, Nat.le_of_ble_eq_true rfl⟩ rfl zC2 rfl rfl dX1_left_48 (fun r_48 w_48 hp => ?_) (fun _ _ h => h.elim)
        obtain ⟨rfl, sn1, g1, sm1, D1, rfl⟩ := hp
        refine z_weq (w' := [zH, zO _ [zr _ _, zr _ _, zr _ _, zr _ _, zr _ _, zi _, zi _, zr _ _, zr _ _], zH, zO _ [zr _ _, zi _, zi _, zi _], zAi 0 24 _, zH, zH, zH, zH, zH, zH, zH, zH, zH, zH, zH, zH, zH, zH, zH, zH, zH, zO _ [zi _, zi _, zr _ _], zAi 0 24 _, zAi 0 (prs n f).length _]) rfl ?_
        refine z_seq (S' := zi _ :: _) rfl ?_
        exact z_iret F E rfl dX1_left_51 (by omega) (by omega) (⟨by rw [ev], sn1, g1, sm1, D1, rfl⟩)
    · exact absurd c_17 (nI_ne (by omega))
theorem c_xleft11 (t : Nat) (fp sn0 g0 sm0 : Int32) (D : Nat → Int32) (n d kind : Nat) (f : Nat → Int32) (i j : Nat) (hi : i < flN kind n f) (hj : j < flN kind n f) (h : nok n d f) (hk : kind < 2) : zCtr yX1_left cX1_left 7 (some .int) 4 0 0 [zr 1 0, zr 22 0, zr 24 0, zi (nI kind), zi (nI i), zi (nI j)] (xBR t fp sn0 g0 sm0 D n d f (prs n f).length (rowA (prs n f) (fun _ => 0))) (fun r w => r = some (zi (nI (flV n f kind i j))) ∧ ∃ sn g sm D, w = xBR t fp sn g sm D n d f (prs n f).length (rowA (prs n f) (fun _ => 0))) zNx := by
  refine z_start (by decide) [some (zr 1 0), some (zr 22 0), some (zr 24 0), some (zi (nI kind)), some (zi (nI i)), some (zi (nI j)), none] rfl (fun _ => Nat.le_of_ble_eq_true rfl) (fun _ => rfl) (fun X F E hno hin => ?_)
  have hn := h.n24
  have h96 := prs_96 h
  have hal : ∀ i, i < 32 → bt (allB n) i = true → i < n := fun i _ q => al_lt hn i q
  have hln : kind = 0 → i < (prs n f).length := fun e => by
    unfold flN at hi; rw [if_pos e] at hi; exact hi
  have hkn : kind = 1 → i < n := fun e => by
    unfold flN at hi; rw [if_neg (by omega)] at hi; exact hi
  have hi96 : i < 97 := by
    rcases (show kind = 0 ∨ kind = 1 by omega) with e | e
    · have := hln e; omega
    · have := hkn e; omega
  have hlnj : kind = 0 → j < (prs n f).length := fun e => by
    unfold flN at hj; rw [if_pos e] at hj; exact hj
  have hknj : kind = 1 → j < n := fun e => by
    unfold flN at hj; rw [if_neg (by omega)] at hj; exact hj
  have hj96 : j < 97 := by
    rcases (show kind = 0 ∨ kind = 1 by omega) with e | e
    · have := hlnj e; omega
    · have := hknj e; omega
  refine z_iload_n F dX1_left_0 rfl ?_
  refine z_iconst F (nI 1) dX1_left_1 rfl ?_
  refine z_icmp_neN F (by omega) (by omega) (tgt := 52) dX1_left_2 (by decide) (fun c_2 => ?_) (fun c_2 => ?_)
  · obtain ⟨p1, p2, p3⟩ := prs_at (hln (by omega))
    have p4 : bt (f (lb (prs n f) i)) (la (prs n f) i) = true := by rw [← h.sym (by omega) p2]; exact p3
    obtain ⟨r1, r2, r3⟩ := prs_at (hlnj (by omega))
    have r4 : bt (f (lb (prs n f) j)) (la (prs n f) j) = true := by rw [← h.sym (by omega) r2]; exact r3
    have ev : flV n f kind i j = cfar n (ptp f (prs n f) i j) (allB n) := if_neg (by omega)
    have hr : jn (jn (pt (pt f (la (prs n f) i) (lb (prs n f) i)) (la (prs n f) j) (lb (prs n f) j)) (la (prs n f) i) (lb (prs n f) i)) (la (prs n f) j) (lb (prs n f) j) = f := jj_pp (by omega) (by omega) (by omega) (by omega) p3 p4 r3 r4
    refine z_aload_n F dX1_left_52 rfl ?_
    refine z_aload_n F dX1_left_53 rfl ?_
    refine z_iload F dX1_left_54 rfl ?_
    refine z_iconstB F true dX1_left_56 rfl ?_
    refine z_callS F (c_xfallT n d f i h (hln (by omega)) f true) 4 rfl (lw_S q1075 q1076 q109 q1077) (by decide +kernel) ⟨Nat.le_of_ble_eq_true rfl, Nat.le_of_ble_eq_true rfl⟩ ⟨by omega, by omega⟩ [0, 22, 23, 24] 25 ⟨rfl, rfl, rfl, ⟨Or.inl rfl, Or.inr rfl, Or.inr rfl, Or.inr rfl, trivial⟩⟩ (fun h => nomatch h) (Nat.le_of_ble_eq_true rfl) ⟨⟨Or.inr trivial, Or.inr rfl, Or.inr trivial, Or.inr rfl, Or.inr trivial, Or.inr trivial, Or.inr trivial, Or.inr trivial, Or.inr trivial, Or.inr trivial, Or.inr trivial, Or.inr trivial, Or.inr trivial, Or.inr trivial, Or.inr trivial, Or.inr trivial, Or.inr trivial, Or.inr trivial, Or.inr trivial, Or.inr trivial, Or.inr trivial, Or.inr trivial, Or.inl rfl, Or.inl rfl, Or.inl rfl, trivial⟩, rfl, rfl, rfl, Nat.le_of_ble_eq_true rfl⟩ rfl rfl dX1_left_57 (fun r_57 w_57 hp => ?_) (fun _ _ h => h.elim)
    obtain ⟨rfl, rfl⟩ := hp
    rw [if_pos rfl]
    refine z_weq (w' := [zH, zO _ [zr _ _, zr _ _, zr _ _, zr _ _, zr _ _, zi _, zi _, zr _ _, zr _ _], zH, zO _ [zr _ _, zi _, zi _, zi _], zAi 0 24 _, zH, zH, zH, zH, zH, zH, zH, zH, zH, zH, zH, zH, zH, zH, zH, zH, zH, zO _ [zi _, zi _, zr _ _], zAi 0 24 _, zAi 0 (prs n f).length _]) rfl ?_
    refine z_seq (S' := []) rfl ?_
    refine z_aload_n F dX1_left_60 rfl ?_
    refine z_aload_n F dX1_left_61 rfl ?_
    refine z_iload F dX1_left_62 rfl ?_
    refine z_iconstB F true dX1_left_64 rfl ?_
    refine z_callS F (c_xfallT n d f j h (hlnj (by omega)) (pt f (la (prs n f) i) (lb (prs n f) i)) true) 4 rfl (lw_S q1075 q1076 q109 q1077) (by decide +kernel) ⟨Nat.le_of_ble_eq_true rfl, Nat.le_of_ble_eq_true rfl⟩ ⟨by omega, by omega⟩ [0, 22, 23, 24] 25 ⟨rfl, rfl, rfl, ⟨Or.inl rfl, Or.inr rfl, Or.inr rfl, Or.inr rfl, trivial⟩⟩ (fun h => nomatch h) (Nat.le_of_ble_eq_true rfl) ⟨⟨Or.inr trivial, Or.inr rfl, Or.inr trivial, Or.inr rfl, Or.inr trivial, Or.inr trivial, Or.inr trivial, Or.inr trivial, Or.inr trivial, Or.inr trivial, Or.inr trivial, Or.inr trivial, Or.inr trivial, Or.inr trivial, Or.inr trivial, Or.inr trivial, Or.inr trivial, Or.inr trivial, Or.inr trivial, Or.inr trivial, Or.inr trivial, Or.inr trivial, Or.inl rfl, Or.inl rfl, Or.inl rfl, trivial⟩, rfl, rfl, rfl, Nat.le_of_ble_eq_true rfl⟩ rfl rfl dX1_left_65 (fun r_65 w_65 hp => ?_) (fun _ _ h => h.elim)
    obtain ⟨rfl, rfl⟩ := hp
    rw [if_pos rfl]
    refine z_weq (w' := [zH, zO _ [zr _ _, zr _ _, zr _ _, zr _ _, zr _ _, zi _, zi _, zr _ _, zr _ _], zH, zO _ [zr _ _, zi _, zi _, zi _], zAi 0 24 _, zH, zH, zH, zH, zH, zH, zH, zH, zH, zH, zH, zH, zH, zH, zH, zH, zH, zO _ [zi _, zi _, zr _ _], zAi 0 24 _, zAi 0 (prs n f).length _]) rfl ?_
    refine z_seq (S' := []) rfl ?_
    refine z_aload_n F dX1_left_68 rfl ?_
    refine z_get F zC1 (f := 2) rfl (Nat.le_of_ble_eq_true rfl) q316 rfl dX1_left_69 ?_
    refine z_aload_n F dX1_left_72 rfl ?_
    refine z_aload_n F dX1_left_73 rfl ?_
    refine z_callV F (c_all n (nI d) hn) 0 rfl (lw_V q822 q800 q801 q116 q802) (by decide +kernel) ⟨Nat.le_of_ble_eq_true rfl, Nat.le_of_ble_eq_true rfl⟩ ⟨by omega, by omega⟩ [0, 22, 23] 25 ⟨rfl, rfl, rfl, ⟨Or.inl rfl, Or.inr rfl, Or.inl rfl, trivial⟩⟩ (fun h => nomatch h) (Nat.le_of_ble_eq_true rfl) ⟨⟨Or.inr trivial, Or.inr rfl, Or.inr trivial, Or.inr rfl, Or.inr trivial, Or.inr trivial, Or.inr trivial, Or.inr trivial, Or.inr trivial, Or.inr trivial, Or.inr trivial, Or.inr trivial, Or.inr trivial, Or.inr trivial, Or.inr trivial, Or.inr trivial, Or.inr trivial, Or.inr trivial, Or.inr trivial, Or.inr trivial, Or.inr trivial, Or.inr trivial, Or.inl rfl, Or.inr trivial, Or.inr trivial, trivial⟩, rfl, rfl, rfl, Nat.le_of_ble_eq_true rfl⟩ rfl zC5 rfl rfl dX1_left_74 (fun r_74 w_74 hp => ?_) (fun _ _ h => h.elim)
    obtain ⟨rfl, rfl⟩ := hp
    refine z_weq (w' := [zH, zO _ [zr _ _, zr _ _, zr _ _, zr _ _, zr _ _, zi _, zi _, zr _ _, zr _ _], zH, zO _ [zr _ _, zi _, zi _, zi _], zAi 0 24 _, zH, zH, zH, zH, zH, zH, zH, zH, zH, zH, zH, zH, zH, zH, zH, zH, zH, zO _ [zi _, zi _, zr _ _], zAi 0 24 _, zAi 0 (prs n f).length _]) rfl ?_
    refine z_seq (S' := zi _ :: _) rfl ?_
    refine z_callV F (c_farthest n (nI d) (ptp f (prs n f) i j) (allB n) _ _ _ _ hn hal) 2 rfl (lw_V q823 q824 q825 q110 q826) (by decide +kernel) ⟨Nat.le_of_ble_eq_true rfl, Nat.le_of_ble_eq_true rfl⟩ ⟨by omega, by omega⟩ [0, 3, 4, 22, 23] 25 ⟨rfl, rfl, rfl, ⟨Or.inl rfl, Or.inr rfl, Or.inr rfl, Or.inr rfl, Or.inr rfl, trivial⟩⟩ (fun h => nomatch h) (Nat.le_of_ble_eq_true rfl) ⟨⟨Or.inr trivial, Or.inr rfl, Or.inr trivial, Or.inl rfl, Or.inl rfl, Or.inr trivial, Or.inr trivial, Or.inr trivial, Or.inr trivial, Or.inr trivial, Or.inr trivial, Or.inr trivial, Or.inr trivial, Or.inr trivial, Or.inr trivial, Or.inr trivial, Or.inr trivial, Or.inr trivial, Or.inr trivial, Or.inr trivial, Or.inr trivial, Or.inr trivial, Or.inl rfl, Or.inl rfl, Or.inr trivial, trivial⟩, rfl, rfl, rfl, Nat.le_of_ble_eq_true rfl⟩ rfl zC2 rfl rfl dX1_left_77 (fun r_77 w_77 hp => ?_) (fun _ _ h => h.elim)
    obtain ⟨rfl, sn1, g1, sm1, D1, rfl⟩ := hp
    refine z_weq (w' := [zH, zO _ [zr _ _, zr _ _, zr _ _, zr _ _, zr _ _, zi _, zi _, zr _ _, zr _ _], zH, zO _ [zr _ _, zi _, zi _, zi _], zAi 0 24 _, zH, zH, zH, zH, zH, zH, zH, zH, zH, zH, zH, zH, zH, zH, zH, zH, zH, zO _ [zi _, zi _, zr _ _], zAi 0 24 _, zAi 0 (prs n f).length _]) rfl ?_
    refine z_seq (S' := zi _ :: _) rfl ?_
    refine z_istore F dX1_left_80 (Nat.le_of_ble_eq_true rfl) ?_
    refine z_leq (L' := [_, _, _, _, _, _, _]) rfl ?_
    refine z_aload_n F dX1_left_82 rfl ?_
    refine z_aload_n F dX1_left_83 rfl ?_
    refine z_iload F dX1_left_84 rfl ?_
    refine z_iconstB F false dX1_left_86 rfl ?_
    refine z_callS F (c_xfallT n d f i h (hln (by omega)) (ptp f (prs n f) i j) false) 4 rfl (lw_S q1075 q1076 q109 q1077) (by decide +kernel) ⟨Nat.le_of_ble_eq_true rfl, Nat.le_of_ble_eq_true rfl⟩ ⟨by omega, by omega⟩ [0, 22, 23, 24] 25 ⟨rfl, rfl, rfl, ⟨Or.inl rfl, Or.inr rfl, Or.inr rfl, Or.inr rfl, trivial⟩⟩ (fun h => nomatch h) (Nat.le_of_ble_eq_true rfl) ⟨⟨Or.inr trivial, Or.inr rfl, Or.inr trivial, Or.inr rfl, Or.inr trivial, Or.inr trivial, Or.inr trivial, Or.inr trivial, Or.inr trivial, Or.inr trivial, Or.inr trivial, Or.inr trivial, Or.inr trivial, Or.inr trivial, Or.inr trivial, Or.inr trivial, Or.inr trivial, Or.inr trivial, Or.inr trivial, Or.inr trivial, Or.inr trivial, Or.inr trivial, Or.inl rfl, Or.inl rfl, Or.inl rfl, trivial⟩, rfl, rfl, rfl, Nat.le_of_ble_eq_true rfl⟩ rfl rfl dX1_left_87 (fun r_87 w_87 hp => ?_) (fun _ _ h => h.elim)
    obtain ⟨rfl, rfl⟩ := hp
    rw [if_neg (by decide)]
    refine z_weq (w' := [zH, zO _ [zr _ _, zr _ _, zr _ _, zr _ _, zr _ _, zi _, zi _, zr _ _, zr _ _], zH, zO _ [zr _ _, zi _, zi _, zi _], zAi 0 24 _, zH, zH, zH, zH, zH, zH, zH, zH, zH, zH, zH, zH, zH, zH, zH, zH, zH, zO _ [zi _, zi _, zr _ _], zAi 0 24 _, zAi 0 (prs n f).length _]) rfl ?_
    refine z_seq (S' := []) rfl ?_
    refine z_aload_n F dX1_left_90 rfl ?_
    refine z_aload_n F dX1_left_91 rfl ?_
    refine z_iload F dX1_left_92 rfl ?_
    refine z_iconstB F false dX1_left_94 rfl ?_
    refine z_callS F (c_xfallT n d f j h (hlnj (by omega)) (jn (ptp f (prs n f) i j) (la (prs n f) i) (lb (prs n f) i)) false) 4 rfl (lw_S q1075 q1076 q109 q1077) (by decide +kernel) ⟨Nat.le_of_ble_eq_true rfl, Nat.le_of_ble_eq_true rfl⟩ ⟨by omega, by omega⟩ [0, 22, 23, 24] 25 ⟨rfl, rfl, rfl, ⟨Or.inl rfl, Or.inr rfl, Or.inr rfl, Or.inr rfl, trivial⟩⟩ (fun h => nomatch h) (Nat.le_of_ble_eq_true rfl) ⟨⟨Or.inr trivial, Or.inr rfl, Or.inr trivial, Or.inr rfl, Or.inr trivial, Or.inr trivial, Or.inr trivial, Or.inr trivial, Or.inr trivial, Or.inr trivial, Or.inr trivial, Or.inr trivial, Or.inr trivial, Or.inr trivial, Or.inr trivial, Or.inr trivial, Or.inr trivial, Or.inr trivial, Or.inr trivial, Or.inr trivial, Or.inr trivial, Or.inr trivial, Or.inl rfl, Or.inl rfl, Or.inl rfl, trivial⟩, rfl, rfl, rfl, Nat.le_of_ble_eq_true rfl⟩ rfl rfl dX1_left_95 (fun r_95 w_95 hp => ?_) (fun _ _ h => h.elim)
    obtain ⟨rfl, rfl⟩ := hp
    rw [if_neg (by decide), show jn (jn (ptp f (prs n f) i j) (la (prs n f) i) (lb (prs n f) i)) (la (prs n f) j) (lb (prs n f) j) = f from hr]
    refine z_weq (w' := [zH, zO _ [zr _ _, zr _ _, zr _ _, zr _ _, zr _ _, zi _, zi _, zr _ _, zr _ _], zH, zO _ [zr _ _, zi _, zi _, zi _], zAi 0 24 _, zH, zH, zH, zH, zH, zH, zH, zH, zH, zH, zH, zH, zH, zH, zH, zH, zH, zO _ [zi _, zi _, zr _ _], zAi 0 24 _, zAi 0 (prs n f).length _]) rfl ?_
    refine z_seq (S' := []) rfl ?_
    refine z_iload F dX1_left_98 rfl ?_
    exact z_iret F E rfl dX1_left_100 (by omega) (by omega) (⟨by rw [ev], _, _, _, _, rfl⟩)
  · have hin := hkn (by omega)
    have hjn := hknj (by omega)
    have ev : flV n f kind i j = cfar n f (stp n i j) := if_pos (by omega)
    refine z_aload_n F dX1_left_5 rfl ?_
    refine z_get F zC1 (f := 2) rfl (Nat.le_of_ble_eq_true rfl) q316 rfl dX1_left_6 ?_
    refine z_aload_n F dX1_left_9 rfl ?_
    refine z_aload_n F dX1_left_10 rfl ?_
    refine z_callV F (c_all n (nI d) hn) 0 rfl (lw_V q822 q800 q801 q116 q802) (by decide +kernel) ⟨Nat.le_of_ble_eq_true rfl, Nat.le_of_ble_eq_true rfl⟩ ⟨by omega, by omega⟩ [0, 22, 23] 25 ⟨rfl, rfl, rfl, ⟨Or.inl rfl, Or.inr rfl, Or.inl rfl, trivial⟩⟩ (fun h => nomatch h) (Nat.le_of_ble_eq_true rfl) ⟨⟨Or.inr trivial, Or.inr rfl, Or.inr trivial, Or.inr rfl, Or.inr trivial, Or.inr trivial, Or.inr trivial, Or.inr trivial, Or.inr trivial, Or.inr trivial, Or.inr trivial, Or.inr trivial, Or.inr trivial, Or.inr trivial, Or.inr trivial, Or.inr trivial, Or.inr trivial, Or.inr trivial, Or.inr trivial, Or.inr trivial, Or.inr trivial, Or.inr trivial, Or.inl rfl, Or.inr trivial, Or.inr trivial, trivial⟩, rfl, rfl, rfl, Nat.le_of_ble_eq_true rfl⟩ rfl zC5 rfl rfl dX1_left_11 (fun r_11 w_11 hp => ?_) (fun _ _ h => h.elim)
    obtain ⟨rfl, rfl⟩ := hp
    refine z_weq (w' := [zH, zO _ [zr _ _, zr _ _, zr _ _, zr _ _, zr _ _, zi _, zi _, zr _ _, zr _ _], zH, zO _ [zr _ _, zi _, zi _, zi _], zAi 0 24 _, zH, zH, zH, zH, zH, zH, zH, zH, zH, zH, zH, zH, zH, zH, zH, zH, zH, zO _ [zi _, zi _, zr _ _], zAi 0 24 _, zAi 0 (prs n f).length _]) rfl ?_
    refine z_seq (S' := zi _ :: _) rfl ?_
    refine z_iload F dX1_left_14 rfl ?_
    refine z_iconst F (-1) dX1_left_16 rfl ?_
    refine z_icmp_ne F (tgt := 24) dX1_left_17 (by decide) (fun c_17 => ?_) (fun c_17 => ?_)
    · refine z_iconst F (nI 1) dX1_left_24 rfl ?_
      refine z_iload F dX1_left_25 rfl ?_
      refine z_ishlB F dX1_left_27 ?_
      refine z_iconst F (-1) dX1_left_28 rfl ?_
      refine z_ixor F dX1_left_29 ?_
      refine z_iand F dX1_left_30 ?_
      refine z_iload F dX1_left_31 rfl ?_
      refine z_iconst F (-1) dX1_left_33 rfl ?_
      refine z_icmp_ne F (tgt := 41) dX1_left_34 (by decide) (fun c_34 => ?_) (fun c_34 => ?_)
      · refine z_iconst F (nI 1) dX1_left_41 rfl ?_
        refine z_iload F dX1_left_42 rfl ?_
        refine z_ishlB F dX1_left_44 ?_
        refine z_iconst F (-1) dX1_left_45 rfl ?_
        refine z_ixor F dX1_left_46 ?_
        refine z_iand F dX1_left_47 ?_
        refine z_callV F (c_farthest n (nI d) f (stp n i j) _ _ _ _ hn (fun k _ hk2 => stp_in hn (by omega) (by omega) k hk2)) 2 rfl (lw_V q823 q824 q825 q110 q826) (by decide +kernel) ⟨Nat.le_of_ble_eq_true rfl, Nat.le_of_ble_eq_true rfl⟩ ⟨by omega, by omega⟩ [0, 3, 4, 22, 23] 25 ⟨rfl, rfl, rfl, ⟨Or.inl rfl, Or.inr rfl, Or.inr rfl, Or.inr rfl, Or.inr rfl, trivial⟩⟩ (fun h => nomatch h) (Nat.le_of_ble_eq_true rfl) ⟨⟨Or.inr trivial, Or.inr rfl, Or.inr trivial, Or.inl rfl, Or.inl rfl, Or.inr trivial, Or.inr trivial, Or.inr trivial, Or.inr trivial, Or.inr trivial, Or.inr trivial, Or.inr trivial, Or.inr trivial, Or.inr trivial, Or.inr trivial, Or.inr trivial, Or.inr trivial, Or.inr trivial, Or.inr trivial, Or.inr trivial, Or.inr trivial, Or.inr trivial, Or.inl rfl, Or.inl rfl, Or.inr trivial, trivial⟩, rfl, rfl, rfl, Nat.le_of_ble_eq_true rfl⟩ rfl zC2 rfl rfl dX1_left_48 (fun r_48 w_48 hp => ?_) (fun _ _ h => h.elim)
        obtain ⟨rfl, sn1, g1, sm1, D1, rfl⟩ := hp
        refine z_weq (w' := [zH, zO _ [zr _ _, zr _ _, zr _ _, zr _ _, zr _ _, zi _, zi _, zr _ _, zr _ _], zH, zO _ [zr _ _, zi _, zi _, zi _], zAi 0 24 _, zH, zH, zH, zH, zH, zH, zH, zH, zH, zH, zH, zH, zH, zH, zH, zH, zH, zO _ [zi _, zi _, zr _ _], zAi 0 24 _, zAi 0 (prs n f).length _]) rfl ?_
        refine z_seq (S' := zi _ :: _) rfl ?_
        exact z_iret F E rfl dX1_left_51 (by omega) (by omega) (⟨by rw [ev], sn1, g1, sm1, D1, rfl⟩)
      · exact absurd c_34 (nI_ne (by omega))
    · exact absurd c_17 (nI_ne (by omega))
end C9yq
