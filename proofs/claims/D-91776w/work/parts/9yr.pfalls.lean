/-! falls: WiredNets' operation -/
section C9yr
abbrev xFa (P : zPt) (t : Nat) (fp sn0 g0 sm0 : Int32) (D : Nat → Int32) (e9 e10 : zE) : List zE := [zPl (pR P) P, xO t fp, zH, eFl 4 sn0 g0 sm0, zAi 0 24 D, zH, zH, zH, zH, e9, e10, zH, zH, zH, zH, zH, zH, zH, zH, zH, zH, zH]
abbrev xFf (P : zPt) (t : Nat) (fp sn0 g0 sm0 : Int32) (D : Nat → Int32) (e9 e10 : zE) (j n d : Nat) (f : Nat → Int32) : List zE := [zPl (zput (pR P) j (zr 22 0)) (zput P j none), xO t fp, zH, eFl 4 sn0 g0 sm0, zAi 0 24 D, zH, zH, zH, zH, e9, e10, zH, zH, zH, zH, zH, zH, zH, zH, zH, zH, zH, eNet 23 (nI n) (nI d), zAi 0 24 f, zAi 0 (prs n f).length (rowA (prs n f) (fun _ => 0))]
theorem neg_lt (v : Nat) (h : v < 2 ^ 31) : (-1 : Int32) < nI v := Int32.not_le.mp fun z => nI_pos h (Int32.lt_of_le_of_lt z (by decide))
theorem c_pfalls_A (Dg : va_G) (P : zPt) (t : Nat) (fp sn0 g0 sm0 : Int32) (Df0 : Nat → Int32) (m0 : Int32) (j n d kind many : Nat) (f : Nat → Int32) (hj : j < 8) (h : nok n d f) (hP : P j = some (nI n, nI d, f)) (hk : kind < 2) (hm : many < 3) : zCtrD Dg yX1_falls cX1_falls 13 (some .int) 8 8 160 [zr 1 0, zi (nI j), zi (nI kind), zi (nI many)] (xFa P t fp sn0 g0 sm0 Df0 (eLs m0 0 (zq (Dg.2 1001 1))) zH) (fun r w => ∃ sn g sm Df1, (few many kind n f ∧ r = some (zi (-1)) ∧ w = xFa P t fp sn g sm Df1 (eLs m0 0 (zq (Dg.2 1001 1))) zH) ∨ (¬ few many kind n f ∧ ∃ b, flO many kind n f = some b ∧ r = some (zi (nI b.1)) ∧ ((many = 0 ∧ ∃ m1, w = xFa P t fp sn g sm Df1 (eLs m1 0 (zq (Dg.2 1001 1))) zH) ∨ (1 ≤ many ∧ ∃ m1 g1, w = xFa P t fp sn g sm Df1 (eLs m1 many (zr 25 0)) zH ++ [zH, zH, zH, zAv 10 g1] ∧ g1 0 = .ref (Dg.2 1000 (b.2.1 + 128)) ∧ (many = 2 → g1 1 = .ref (Dg.2 1000 (b.2.2 + 128))))))) zNx := by
  refine z_startD (by decide) [some (zr 1 0), some (zi (nI j)), some (zi (nI kind)), some (zi (nI many)), none, none, none, none, none, none, none, none, none] rfl (fun _ => Nat.le_of_ble_eq_true rfl) (fun _ => rfl) (fun X hD F E hno hin => ?_)
  subst hD
  have h1 := h.n1
  have h24 := h.n24
  have h96 := prs_96 h
  have hNN : flN kind n f ≤ 96 := by
    unfold flN
    split
    · exact h96
    · omega
  have e0 : many = 0 → ¬ few many kind n f → ∀ (v : Nat) (sn g sm : Int32) (Df : Nat → Int32), flO many kind n f = some (v, 0, 0) → Z X [some (zr 1 0), none, none, none, none, none, none, some (zi (nI v)), some (zi (-1)), some (zi (-1)), none, none, none] [] (xFf P t fp sn g sm Df (eLs m0 0 (zq (X.2.2.1.2 1001 1))) zH j n d f) 4 118 191 := by
    intro em hnf v sn g sm Df ho
    refine z_aload_n F dX1_falls_191 rfl ?_
    refine z_get F zC1 (f := 4) rfl (Nat.le_of_ble_eq_true rfl) q318 rfl dX1_falls_192 ?_
    refine z_callF F (c_Jclear0 _ m0) 0 rfl (lw_F q1079 q1085 q1083 q114 q1087) (zF0 F) (by decide +kernel) ⟨Nat.le_of_ble_eq_true rfl, Nat.le_of_ble_eq_true rfl⟩ ⟨by omega, by omega⟩ [0, 9] 25 ⟨rfl, rfl, rfl, ⟨Or.inl rfl, Or.inr rfl, trivial⟩⟩ (fun h => nomatch h) (Nat.le_of_ble_eq_true rfl) ⟨⟨Or.inr (by first | exact ⟨rfl, pR_B _ (by decide)⟩ | exact ⟨rfl, uR_B (by decide) (by decide)⟩), Or.inr rfl, Or.inr trivial, Or.inr rfl, Or.inr trivial, Or.inr trivial, Or.inr trivial, Or.inr trivial, Or.inr trivial, Or.inl rfl, Or.inr trivial, Or.inr trivial, Or.inr trivial, Or.inr trivial, Or.inr trivial, Or.inr trivial, Or.inr trivial, Or.inr trivial, Or.inr trivial, Or.inr trivial, Or.inr trivial, Or.inr trivial, Or.inr rfl, Or.inr trivial, Or.inr trivial, trivial⟩, rfl, rfl, rfl, Nat.le_of_ble_eq_true rfl⟩ rfl rfl rfl dX1_falls_195 (fun r_195 w_195 hp => ?_) (fun _ _ h => h.elim)
    obtain ⟨rfl, rfl⟩ := hp
    refine z_weq (w' := [zPl _ _, zO _ [zr _ _, zr _ _, zr _ _, zr _ _, zr _ _, zi _, zi _, zr _ _, zr _ _], zH, zO _ [zr _ _, zi _, zi _, zi _], zAi 0 24 _, zH, zH, zH, zH, zO _ [zi _, zq _, zi _], zH, zH, zH, zH, zH, zH, zH, zH, zH, zH, zH, zH, zO _ [zi _, zi _, zr _ _], zAi 0 24 _, zAi 0 (prs n f).length _]) rfl ?_
    refine z_seq (S' := []) rfl ?_
    refine z_iload F dX1_falls_200 rfl ?_
    refine z_iconst F (-1) dX1_falls_202 rfl ?_
    refine z_icmp_eq F (tgt := 221) dX1_falls_203 (by decide) (fun c_203 => ?_) (fun c_203 => ?_)
    · refine z_iload F dX1_falls_221 rfl ?_
      refine z_iconst F (-1) dX1_falls_223 rfl ?_
      refine z_icmp_eq F (tgt := 242) dX1_falls_224 (by decide) (fun c_224 => ?_) (fun c_224 => ?_)
      · refine z_unfocus F rfl j 22 23 22 hj zput_self rfl rfl (Nat.le_of_ble_eq_true rfl) (Nat.le_of_ble_eq_true rfl) (Nat.le_of_ble_eq_true rfl) (Nat.le_of_ble_eq_true rfl) [zO _ [zr _ _, zr _ _, zr _ _, zr _ _, zr _ _, zi _, zi _, zr _ _, zr _ _], zH, zO _ [zr _ _, zi _, zi _, zi _], zAi 0 24 _, zH, zH, zH, zH, zO _ [zi _, zq _, zi _], zH, zH, zH, zH, zH, zH, zH, zH, zH, zH, zH, zH] rfl ⟨rfl, trivial, rfl, trivial, trivial, trivial, trivial, trivial, rfl, trivial, trivial, trivial, trivial, trivial, trivial, trivial, trivial, trivial, trivial, trivial, trivial, trivial⟩ uOK rfl rfl ?_
        refine z_weq (w' := zPl (pR (zput P j (some _))) (zput P j (some _)) :: _) (congrArg (fun z => z :: _) uPl2) ?_
        refine z_iload F dX1_falls_242 rfl ?_
        exact z_iret F E rfl dX1_falls_244 (by omega) (by omega) (⟨sn, g, sm, Df, Or.inr ⟨hnf, _, ho, rfl, Or.inl ⟨em, _, by rw [zput_some hP] <;> rfl⟩⟩⟩)
      · exact absurd rfl c_224
    · exact absurd rfl c_203
  have e1 : many = 1 → ¬ few many kind n f → ∀ (v x y : Nat) (sn g sm : Int32) (Df : Nat → Int32), flO many kind n f = some (v, x, y) → x < 97 → Z X [some (zr 1 0), none, none, none, none, none, none, some (zi (nI v)), some (zi (nI x)), some (zi (-1)), none, none, none] [] (xFf P t fp sn g sm Df (eLs m0 0 (zq (X.2.2.1.2 1001 1))) zH j n d f) 4 118 191 := by
    intro em hnf v x y sn g sm Df ho hx
    refine z_aload_n F dX1_falls_191 rfl ?_
    refine z_get F zC1 (f := 4) rfl (Nat.le_of_ble_eq_true rfl) q318 rfl dX1_falls_192 ?_
    refine z_callF F (c_Jclear0 _ m0) 0 rfl (lw_F q1079 q1085 q1083 q114 q1087) (zF0 F) (by decide +kernel) ⟨Nat.le_of_ble_eq_true rfl, Nat.le_of_ble_eq_true rfl⟩ ⟨by omega, by omega⟩ [0, 9] 25 ⟨rfl, rfl, rfl, ⟨Or.inl rfl, Or.inr rfl, trivial⟩⟩ (fun h => nomatch h) (Nat.le_of_ble_eq_true rfl) ⟨⟨Or.inr (by first | exact ⟨rfl, pR_B _ (by decide)⟩ | exact ⟨rfl, uR_B (by decide) (by decide)⟩), Or.inr rfl, Or.inr trivial, Or.inr rfl, Or.inr trivial, Or.inr trivial, Or.inr trivial, Or.inr trivial, Or.inr trivial, Or.inl rfl, Or.inr trivial, Or.inr trivial, Or.inr trivial, Or.inr trivial, Or.inr trivial, Or.inr trivial, Or.inr trivial, Or.inr trivial, Or.inr trivial, Or.inr trivial, Or.inr trivial, Or.inr trivial, Or.inr rfl, Or.inr trivial, Or.inr trivial, trivial⟩, rfl, rfl, rfl, Nat.le_of_ble_eq_true rfl⟩ rfl rfl rfl dX1_falls_195 (fun r_195 w_195 hp => ?_) (fun _ _ h => h.elim)
    obtain ⟨rfl, rfl⟩ := hp
    refine z_weq (w' := [zPl _ _, zO _ [zr _ _, zr _ _, zr _ _, zr _ _, zr _ _, zi _, zi _, zr _ _, zr _ _], zH, zO _ [zr _ _, zi _, zi _, zi _], zAi 0 24 _, zH, zH, zH, zH, zO _ [zi _, zq _, zi _], zH, zH, zH, zH, zH, zH, zH, zH, zH, zH, zH, zH, zO _ [zi _, zi _, zr _ _], zAi 0 24 _, zAi 0 (prs n f).length _]) rfl ?_
    refine z_seq (S' := []) rfl ?_
    refine z_iload F dX1_falls_200 rfl ?_
    refine z_iconst F (-1) dX1_falls_202 rfl ?_
    refine z_icmp_eq F (tgt := 221) dX1_falls_203 (by decide) (fun c_203 => ?_) (fun c_203 => ?_)
    · exact absurd c_203 (nI_ne (by omega))
    · refine z_aload_n F dX1_falls_206 rfl ?_
      refine z_get F zC1 (f := 4) rfl (Nat.le_of_ble_eq_true rfl) q318 rfl dX1_falls_207 ?_
      refine z_iload F dX1_falls_210 rfl ?_
      refine z_callSD F (c_JvalueOf _ x (by omega)) 1 rfl (lw_S q1088 q1089 q123 q1090) (by decide +kernel) ⟨Nat.le_of_ble_eq_true rfl, Nat.le_of_ble_eq_true rfl⟩ ⟨by omega, by omega⟩ [0] 25 ⟨rfl, rfl, rfl, ⟨Or.inl rfl, trivial⟩⟩ (fun h => nomatch h) (Nat.le_of_ble_eq_true rfl) ⟨⟨Or.inr (by first | exact ⟨rfl, pR_B _ (by decide)⟩ | exact ⟨rfl, uR_B (by decide) (by decide)⟩), Or.inr rfl, Or.inr trivial, Or.inr rfl, Or.inr trivial, Or.inr trivial, Or.inr trivial, Or.inr trivial, Or.inr trivial, Or.inr rfl, Or.inr trivial, Or.inr trivial, Or.inr trivial, Or.inr trivial, Or.inr trivial, Or.inr trivial, Or.inr trivial, Or.inr trivial, Or.inr trivial, Or.inr trivial, Or.inr trivial, Or.inr trivial, Or.inr rfl, Or.inr trivial, Or.inr trivial, trivial⟩, rfl, rfl, rfl, Nat.le_of_ble_eq_true rfl⟩ rfl rfl dX1_falls_212 (fun r_212 w_212 hp => ?_) (fun _ _ h => h.elim)
      obtain ⟨rfl, rfl⟩ := hp
      refine z_weq (w' := [zPl _ _, zO _ [zr _ _, zr _ _, zr _ _, zr _ _, zr _ _, zi _, zi _, zr _ _, zr _ _], zH, zO _ [zr _ _, zi _, zi _, zi _], zAi 0 24 _, zH, zH, zH, zH, zO _ [zi _, zq _, zi _], zH, zH, zH, zH, zH, zH, zH, zH, zH, zH, zH, zH, zO _ [zi _, zi _, zr _ _], zAi 0 24 _, zAi 0 (prs n f).length _]) rfl ?_
      refine z_seq (S' := zq _ :: _) rfl ?_
      refine z_callF F (c_JaddA _ _ (x + 128) (by omega)) 1 rfl (lw_F q1109 q1114 q1112 q114 q1116) (zF1 F) (by decide +kernel) ⟨Nat.le_of_ble_eq_true rfl, Nat.le_of_ble_eq_true rfl⟩ ⟨by omega, by omega⟩ [0, 9] 25 ⟨rfl, rfl, rfl, ⟨Or.inl rfl, Or.inr rfl, trivial⟩⟩ (fun h => nomatch h) (Nat.le_of_ble_eq_true rfl) ⟨⟨Or.inr (by first | exact ⟨rfl, pR_B _ (by decide)⟩ | exact ⟨rfl, uR_B (by decide) (by decide)⟩), Or.inr rfl, Or.inr trivial, Or.inr rfl, Or.inr trivial, Or.inr trivial, Or.inr trivial, Or.inr trivial, Or.inr trivial, Or.inl rfl, Or.inr trivial, Or.inr trivial, Or.inr trivial, Or.inr trivial, Or.inr trivial, Or.inr trivial, Or.inr trivial, Or.inr trivial, Or.inr trivial, Or.inr trivial, Or.inr trivial, Or.inr trivial, Or.inr rfl, Or.inr trivial, Or.inr trivial, trivial⟩, rfl, rfl, rfl, Nat.le_of_ble_eq_true rfl⟩ rfl rfl rfl dX1_falls_215 (fun r_215 w_215 hp => ?_) (fun _ _ h => h.elim)
      obtain ⟨rfl, rfl⟩ := hp
      refine z_weq (w' := [zPl _ _, zO _ [zr _ _, zr _ _, zr _ _, zr _ _, zr _ _, zi _, zi _, zr _ _, zr _ _], zH, zO _ [zr _ _, zi _, zi _, zi _], zAi 0 24 _, zH, zH, zH, zH, zO _ [zi _, zr _ _, zi _], zH, zH, zH, zH, zH, zH, zH, zH, zH, zH, zH, zH, zO _ [zi _, zi _, zr _ _], zAi 0 24 _, zAi 0 (prs n f).length _, zAr _ 10 _]) rfl ?_
      refine z_seq (S' := zi _ :: _) rfl ?_
      refine z_pop F dX1_falls_220 rfl ?_
      refine z_iload F dX1_falls_221 rfl ?_
      refine z_iconst F (-1) dX1_falls_223 rfl ?_
      refine z_icmp_eq F (tgt := 242) dX1_falls_224 (by decide) (fun c_224 => ?_) (fun c_224 => ?_)
      · refine z_unfocusH F rfl j 22 23 hj zput_self rfl rfl (Nat.le_of_ble_eq_true rfl) (Nat.le_of_ble_eq_true rfl) [zO _ [zr _ _, zr _ _, zr _ _, zr _ _, zr _ _, zi _, zi _, zr _ _, zr _ _], zH, zO _ [zr _ _, zi _, zi _, zi _], zAi 0 24 _, zH, zH, zH, zH, zO _ [zi _, zr _ _, zi _], zH, zH, zH, zH, zH, zH, zH, zH, zH, zH, zH, zH, zH, zH, zAi 0 (prs n f).length _, zAr _ 10 _] rfl ⟨Nat.le_of_ble_eq_true rfl, Nat.le_of_ble_eq_true rfl⟩ ⟨rfl, trivial, rfl, trivial, trivial, trivial, trivial, trivial, rfl, trivial, trivial, trivial, trivial, trivial, trivial, trivial, trivial, trivial, trivial, trivial, trivial, trivial, trivial, trivial, (fun _ => rfl), trivial⟩ uOV rfl rfl ?_
        refine z_weq (w' := zPl (pR P) P :: _) (congrArg (fun z => z :: _) (uPl3 hP)) ?_
        refine z_forget F 24 (w' := [zPl _ _, zO _ [zr _ _, zr _ _, zr _ _, zr _ _, zr _ _, zi _, zi _, zr _ _, zr _ _], zH, zO _ [zr _ _, zi _, zi _, zi _], zAi 0 24 _, zH, zH, zH, zH, zO _ [zi _, zr _ _, zi _], zH, zH, zH, zH, zH, zH, zH, zH, zH, zH, zH, zH, zH, zH, zH, zAr _ 10 _]) rfl ?_
        refine z_iload F dX1_falls_242 rfl ?_
        exact z_iret F E rfl dX1_falls_244 (by omega) (by omega) (⟨sn, g, sm, Df, Or.inr ⟨hnf, _, ho, rfl, Or.inr ⟨by omega, _, _, by rw [em] <;> rfl, rfl, fun z => by omega⟩⟩⟩)
      · exact absurd rfl c_224
  have e2 : many = 2 → ¬ few many kind n f → ∀ (v x y : Nat) (sn g sm : Int32) (Df : Nat → Int32), flO many kind n f = some (v, x, y) → x < 97 → y < 97 → Z X [some (zr 1 0), none, none, none, none, none, none, some (zi (nI v)), some (zi (nI x)), some (zi (nI y)), none, none, none] [] (xFf P t fp sn g sm Df (eLs m0 0 (zq (X.2.2.1.2 1001 1))) zH j n d f) 4 118 191 := by
    intro em hnf v x y sn g sm Df ho hx hy
    refine z_aload_n F dX1_falls_191 rfl ?_
    refine z_get F zC1 (f := 4) rfl (Nat.le_of_ble_eq_true rfl) q318 rfl dX1_falls_192 ?_
    refine z_callF F (c_Jclear0 _ m0) 0 rfl (lw_F q1079 q1085 q1083 q114 q1087) (zF0 F) (by decide +kernel) ⟨Nat.le_of_ble_eq_true rfl, Nat.le_of_ble_eq_true rfl⟩ ⟨by omega, by omega⟩ [0, 9] 25 ⟨rfl, rfl, rfl, ⟨Or.inl rfl, Or.inr rfl, trivial⟩⟩ (fun h => nomatch h) (Nat.le_of_ble_eq_true rfl) ⟨⟨Or.inr (by first | exact ⟨rfl, pR_B _ (by decide)⟩ | exact ⟨rfl, uR_B (by decide) (by decide)⟩), Or.inr rfl, Or.inr trivial, Or.inr rfl, Or.inr trivial, Or.inr trivial, Or.inr trivial, Or.inr trivial, Or.inr trivial, Or.inl rfl, Or.inr trivial, Or.inr trivial, Or.inr trivial, Or.inr trivial, Or.inr trivial, Or.inr trivial, Or.inr trivial, Or.inr trivial, Or.inr trivial, Or.inr trivial, Or.inr trivial, Or.inr trivial, Or.inr rfl, Or.inr trivial, Or.inr trivial, trivial⟩, rfl, rfl, rfl, Nat.le_of_ble_eq_true rfl⟩ rfl rfl rfl dX1_falls_195 (fun r_195 w_195 hp => ?_) (fun _ _ h => h.elim)
    obtain ⟨rfl, rfl⟩ := hp
    refine z_weq (w' := [zPl _ _, zO _ [zr _ _, zr _ _, zr _ _, zr _ _, zr _ _, zi _, zi _, zr _ _, zr _ _], zH, zO _ [zr _ _, zi _, zi _, zi _], zAi 0 24 _, zH, zH, zH, zH, zO _ [zi _, zq _, zi _], zH, zH, zH, zH, zH, zH, zH, zH, zH, zH, zH, zH, zO _ [zi _, zi _, zr _ _], zAi 0 24 _, zAi 0 (prs n f).length _]) rfl ?_
    refine z_seq (S' := []) rfl ?_
    refine z_iload F dX1_falls_200 rfl ?_
    refine z_iconst F (-1) dX1_falls_202 rfl ?_
    refine z_icmp_eq F (tgt := 221) dX1_falls_203 (by decide) (fun c_203 => ?_) (fun c_203 => ?_)
    · exact absurd c_203 (nI_ne (by omega))
    · refine z_aload_n F dX1_falls_206 rfl ?_
      refine z_get F zC1 (f := 4) rfl (Nat.le_of_ble_eq_true rfl) q318 rfl dX1_falls_207 ?_
      refine z_iload F dX1_falls_210 rfl ?_
      refine z_callSD F (c_JvalueOf _ x (by omega)) 1 rfl (lw_S q1088 q1089 q123 q1090) (by decide +kernel) ⟨Nat.le_of_ble_eq_true rfl, Nat.le_of_ble_eq_true rfl⟩ ⟨by omega, by omega⟩ [0] 25 ⟨rfl, rfl, rfl, ⟨Or.inl rfl, trivial⟩⟩ (fun h => nomatch h) (Nat.le_of_ble_eq_true rfl) ⟨⟨Or.inr (by first | exact ⟨rfl, pR_B _ (by decide)⟩ | exact ⟨rfl, uR_B (by decide) (by decide)⟩), Or.inr rfl, Or.inr trivial, Or.inr rfl, Or.inr trivial, Or.inr trivial, Or.inr trivial, Or.inr trivial, Or.inr trivial, Or.inr rfl, Or.inr trivial, Or.inr trivial, Or.inr trivial, Or.inr trivial, Or.inr trivial, Or.inr trivial, Or.inr trivial, Or.inr trivial, Or.inr trivial, Or.inr trivial, Or.inr trivial, Or.inr trivial, Or.inr rfl, Or.inr trivial, Or.inr trivial, trivial⟩, rfl, rfl, rfl, Nat.le_of_ble_eq_true rfl⟩ rfl rfl dX1_falls_212 (fun r_212 w_212 hp => ?_) (fun _ _ h => h.elim)
      obtain ⟨rfl, rfl⟩ := hp
      refine z_weq (w' := [zPl _ _, zO _ [zr _ _, zr _ _, zr _ _, zr _ _, zr _ _, zi _, zi _, zr _ _, zr _ _], zH, zO _ [zr _ _, zi _, zi _, zi _], zAi 0 24 _, zH, zH, zH, zH, zO _ [zi _, zq _, zi _], zH, zH, zH, zH, zH, zH, zH, zH, zH, zH, zH, zH, zO _ [zi _, zi _, zr _ _], zAi 0 24 _, zAi 0 (prs n f).length _]) rfl ?_
      refine z_seq (S' := zq _ :: _) rfl ?_
      refine z_callF F (c_JaddA _ _ (x + 128) (by omega)) 1 rfl (lw_F q1109 q1114 q1112 q114 q1116) (zF1 F) (by decide +kernel) ⟨Nat.le_of_ble_eq_true rfl, Nat.le_of_ble_eq_true rfl⟩ ⟨by omega, by omega⟩ [0, 9] 25 ⟨rfl, rfl, rfl, ⟨Or.inl rfl, Or.inr rfl, trivial⟩⟩ (fun h => nomatch h) (Nat.le_of_ble_eq_true rfl) ⟨⟨Or.inr (by first | exact ⟨rfl, pR_B _ (by decide)⟩ | exact ⟨rfl, uR_B (by decide) (by decide)⟩), Or.inr rfl, Or.inr trivial, Or.inr rfl, Or.inr trivial, Or.inr trivial, Or.inr trivial, Or.inr trivial, Or.inr trivial, Or.inl rfl, Or.inr trivial, Or.inr trivial, Or.inr trivial, Or.inr trivial, Or.inr trivial, Or.inr trivial, Or.inr trivial, Or.inr trivial, Or.inr trivial, Or.inr trivial, Or.inr trivial, Or.inr trivial, Or.inr rfl, Or.inr trivial, Or.inr trivial, trivial⟩, rfl, rfl, rfl, Nat.le_of_ble_eq_true rfl⟩ rfl rfl rfl dX1_falls_215 (fun r_215 w_215 hp => ?_) (fun _ _ h => h.elim)
      obtain ⟨rfl, rfl⟩ := hp
      refine z_weq (w' := [zPl _ _, zO _ [zr _ _, zr _ _, zr _ _, zr _ _, zr _ _, zi _, zi _, zr _ _, zr _ _], zH, zO _ [zr _ _, zi _, zi _, zi _], zAi 0 24 _, zH, zH, zH, zH, zO _ [zi _, zr _ _, zi _], zH, zH, zH, zH, zH, zH, zH, zH, zH, zH, zH, zH, zO _ [zi _, zi _, zr _ _], zAi 0 24 _, zAi 0 (prs n f).length _, zAr _ 10 _]) rfl ?_
      refine z_seq (S' := zi _ :: _) rfl ?_
      refine z_pop F dX1_falls_220 rfl ?_
      refine z_iload F dX1_falls_221 rfl ?_
      refine z_iconst F (-1) dX1_falls_223 rfl ?_
      refine z_icmp_eq F (tgt := 242) dX1_falls_224 (by decide) (fun c_224 => ?_) (fun c_224 => ?_)
      · exact absurd c_224 (nI_ne (by omega))
      · refine z_aload_n F dX1_falls_227 rfl ?_
        refine z_get F zC1 (f := 4) rfl (Nat.le_of_ble_eq_true rfl) q318 rfl dX1_falls_228 ?_
        refine z_iload F dX1_falls_231 rfl ?_
        refine z_callSD F (c_JvalueOf _ y (by omega)) 1 rfl (lw_S q1088 q1089 q123 q1090) (by decide +kernel) ⟨Nat.le_of_ble_eq_true rfl, Nat.le_of_ble_eq_true rfl⟩ ⟨by omega, by omega⟩ [0] 26 ⟨rfl, rfl, rfl, ⟨Or.inl rfl, trivial⟩⟩ (fun h => nomatch h) (Nat.le_of_ble_eq_true rfl) ⟨⟨Or.inr (by first | exact ⟨rfl, pR_B _ (by decide)⟩ | exact ⟨rfl, uR_B (by decide) (by decide)⟩), Or.inr rfl, Or.inr trivial, Or.inr rfl, Or.inr trivial, Or.inr trivial, Or.inr trivial, Or.inr trivial, Or.inr trivial, Or.inr rfl, Or.inr trivial, Or.inr trivial, Or.inr trivial, Or.inr trivial, Or.inr trivial, Or.inr trivial, Or.inr trivial, Or.inr trivial, Or.inr trivial, Or.inr trivial, Or.inr trivial, Or.inr trivial, Or.inr rfl, Or.inr trivial, Or.inr trivial, Or.inr (fun _ => rfl), trivial⟩, rfl, rfl, rfl, Nat.le_of_ble_eq_true rfl⟩ rfl rfl dX1_falls_233 (fun r_233 w_233 hp => ?_) (fun _ _ h => h.elim)
        obtain ⟨rfl, rfl⟩ := hp
        refine z_weq (w' := [zPl _ _, zO _ [zr _ _, zr _ _, zr _ _, zr _ _, zr _ _, zi _, zi _, zr _ _, zr _ _], zH, zO _ [zr _ _, zi _, zi _, zi _], zAi 0 24 _, zH, zH, zH, zH, zO _ [zi _, zr _ _, zi _], zH, zH, zH, zH, zH, zH, zH, zH, zH, zH, zH, zH, zO _ [zi _, zi _, zr _ _], zAi 0 24 _, zAi 0 (prs n f).length _, zAr _ 10 _]) rfl ?_
        refine z_seq (S' := zq _ :: _) rfl ?_
        refine z_callF F (c_JaddB _ _ 1 (y + 128) _ (by omega) (by omega)) 1 rfl (lw_F q1109 q1114 q1112 q114 q1116) (zF1 F) (by decide +kernel) ⟨Nat.le_of_ble_eq_true rfl, Nat.le_of_ble_eq_true rfl⟩ ⟨by omega, by omega⟩ [0, 9, 25] 26 ⟨rfl, rfl, rfl, ⟨Or.inl rfl, Or.inr rfl, Or.inr rfl, trivial⟩⟩ (fun h => nomatch h) (Nat.le_of_ble_eq_true rfl) ⟨⟨Or.inr (by first | exact ⟨rfl, pR_B _ (by decide)⟩ | exact ⟨rfl, uR_B (by decide) (by decide)⟩), Or.inr rfl, Or.inr trivial, Or.inr rfl, Or.inr trivial, Or.inr trivial, Or.inr trivial, Or.inr trivial, Or.inr trivial, Or.inl rfl, Or.inr trivial, Or.inr trivial, Or.inr trivial, Or.inr trivial, Or.inr trivial, Or.inr trivial, Or.inr trivial, Or.inr trivial, Or.inr trivial, Or.inr trivial, Or.inr trivial, Or.inr trivial, Or.inr rfl, Or.inr trivial, Or.inr trivial, Or.inl rfl, trivial⟩, rfl, rfl, rfl, Nat.le_of_ble_eq_true rfl⟩ rfl rfl rfl dX1_falls_236 (fun r_236 w_236 hp => ?_) (fun _ _ h => h.elim)
        obtain ⟨rfl, rfl⟩ := hp
        refine z_weq (w' := [zPl _ _, zO _ [zr _ _, zr _ _, zr _ _, zr _ _, zr _ _, zi _, zi _, zr _ _, zr _ _], zH, zO _ [zr _ _, zi _, zi _, zi _], zAi 0 24 _, zH, zH, zH, zH, zO _ [zi _, zr _ _, zi _], zH, zH, zH, zH, zH, zH, zH, zH, zH, zH, zH, zH, zO _ [zi _, zi _, zr _ _], zAi 0 24 _, zAi 0 (prs n f).length _, zAr _ 10 _]) rfl ?_
        refine z_seq (S' := zi _ :: _) rfl ?_
        refine z_pop F dX1_falls_241 rfl ?_
        refine z_unfocusH F rfl j 22 23 hj zput_self rfl rfl (Nat.le_of_ble_eq_true rfl) (Nat.le_of_ble_eq_true rfl) [zO _ [zr _ _, zr _ _, zr _ _, zr _ _, zr _ _, zi _, zi _, zr _ _, zr _ _], zH, zO _ [zr _ _, zi _, zi _, zi _], zAi 0 24 _, zH, zH, zH, zH, zO _ [zi _, zr _ _, zi _], zH, zH, zH, zH, zH, zH, zH, zH, zH, zH, zH, zH, zH, zH, zAi 0 (prs n f).length _, zAr _ 10 _] rfl ⟨Nat.le_of_ble_eq_true rfl, Nat.le_of_ble_eq_true rfl⟩ ⟨rfl, trivial, rfl, trivial, trivial, trivial, trivial, trivial, rfl, trivial, trivial, trivial, trivial, trivial, trivial, trivial, trivial, trivial, trivial, trivial, trivial, trivial, trivial, trivial, (fun _ => rfl), trivial⟩ uOV rfl rfl ?_
        refine z_weq (w' := zPl (pR P) P :: _) (congrArg (fun z => z :: _) (uPl3 hP)) ?_
        refine z_forget F 24 (w' := [zPl _ _, zO _ [zr _ _, zr _ _, zr _ _, zr _ _, zr _ _, zi _, zi _, zr _ _, zr _ _], zH, zO _ [zr _ _, zi _, zi _, zi _], zAi 0 24 _, zH, zH, zH, zH, zO _ [zi _, zr _ _, zi _], zH, zH, zH, zH, zH, zH, zH, zH, zH, zH, zH, zH, zH, zH, zH, zAr _ 10 _]) rfl ?_
        refine z_iload F dX1_falls_242 rfl ?_
        exact z_iret F E rfl dX1_falls_244 (by omega) (by omega) (⟨sn, g, sm, Df, Or.inr ⟨hnf, _, ho, rfl, Or.inr ⟨by omega, _, _, by rw [em] <;> rfl, rfl, fun _ => rfl⟩⟩⟩)
  have z0 : many = 0 → ¬ few many kind n f → ∀ (sn g sm : Int32) (Df : Nat → Int32), Z X [some (zr 1 0), none, some (zi (nI kind)), some (zi (nI many)), some (zr 22 0), some (zr 24 0), some (zi (nI (flN kind n f))), some (zi (-1)), some (zi (-1)), some (zi (-1)), some (zi (-1)), none, none] [] (xFf P t fp sn g sm Df (eLs m0 0 (zq (X.2.2.1.2 1001 1))) zH j n d f) 4 118 96 := by
    intro em hnf sn g sm Df
    have ho : flO many kind n f = some (cfar n f (allB n), 0, 0) := if_pos em
    have hcf := cfar_le n f (allB n)
    have ex : ∀ (sn g sm : Int32) (Df : Nat → Int32), Z X [some (zr 1 0), none, some (zi (nI kind)), some (zi (nI many)), some (zr 22 0), some (zr 24 0), some (zi (nI (flN kind n f))), some (zi (nI (cfar n f (allB n)))), some (zi (-1)), some (zi (-1)), some (zi (-1)), some (zi (nI 0)), none] [] (xFf P t fp sn g sm Df (eLs m0 0 (zq (X.2.2.1.2 1001 1))) zH j n d f) 4 118 126 := by
      intro sn g sm Df
      refine z_iload F dX1_falls_126 rfl ?_
      refine z_iload_n F dX1_falls_128 rfl ?_
      refine z_iconst F (nI 1) dX1_falls_129 rfl ?_
      refine z_icmp_leN F (by omega) (by omega) (tgt := 138) dX1_falls_130 (by decide) (fun c_130 => ?_) (fun c_130 => ?_)
      · refine z_iconst F (nI 0) dX1_falls_138 rfl ?_
        refine z_icmp_geN F (by omega) (by omega) (tgt := 185) dX1_falls_139 (by decide) (fun c_139 => ?_) (fun c_139 => ?_)
        · refine z_iinc F (nI 0) dX1_falls_185 rfl (rfl) ?_
          refine z_leq (L' := [_, _, _, _, _, _, _, _, _, _, _, _, _]) rfl ?_
          refine z_goto F (tgt := 96) dX1_falls_188 (by decide) ?_
          refine z_iload F dX1_falls_96 rfl ?_
          refine z_iload_n F dX1_falls_98 rfl ?_
          refine z_if_leN F (by omega) (tgt := 107) dX1_falls_99 (by decide) (fun c_99 => ?_) (fun c_99 => ?_)
          · refine z_iconst F (nI 0) dX1_falls_107 rfl ?_
            refine z_icmp_ge F (tgt := 191) dX1_falls_108 (by decide) (fun c_108 => ?_) (fun c_108 => ?_)
            · refine z_loc _ ?_ (e0 em hnf _ sn g sm Df ho)
              exact ⟨rfl, rfl, rfl, rfl, trivial⟩
            · exact absurd (Int32.le_refl _) c_108
          · exact absurd c_99 (by omega)
        · exact absurd c_139 (by omega)
      · exact absurd c_130 (by omega)
    refine z_iload F dX1_falls_96 rfl ?_
    refine z_iload_n F dX1_falls_98 rfl ?_
    refine z_if_leN F (by omega) (tgt := 107) dX1_falls_99 (by decide) (fun c_99 => ?_) (fun c_99 => ?_)
    · refine z_iconst F (nI 0) dX1_falls_107 rfl ?_
      refine z_icmp_ge F (tgt := 191) dX1_falls_108 (by decide) (fun c_108 => ?_) (fun c_108 => ?_)
      · exact absurd c_108 (by decide)
      · refine z_iload_n F dX1_falls_111 rfl ?_
        refine z_iconst F (nI 1) dX1_falls_112 rfl ?_
        refine z_icmp_leN F (by omega) (by omega) (tgt := 123) dX1_falls_113 (by decide) (fun c_113 => ?_) (fun c_113 => ?_)
        · refine z_iconst F (-1) dX1_falls_123 rfl ?_
          refine z_istore F dX1_falls_124 (Nat.le_of_ble_eq_true rfl) ?_
          refine z_leq (L' := [_, _, _, _, _, _, _, _, _, _, _, _, _]) rfl ?_
          refine z_iload F dX1_falls_126 rfl ?_
          refine z_iload_n F dX1_falls_128 rfl ?_
          refine z_iconst F (nI 1) dX1_falls_129 rfl ?_
          refine z_icmp_leN F (by omega) (by omega) (tgt := 138) dX1_falls_130 (by decide) (fun c_130 => ?_) (fun c_130 => ?_)
          · refine z_iconst F (nI 0) dX1_falls_138 rfl ?_
            refine z_icmp_ge F (tgt := 185) dX1_falls_139 (by decide) (fun c_139 => ?_) (fun c_139 => ?_)
            · exact absurd c_139 (by decide)
            · refine z_aload_n F dX1_falls_142 rfl ?_
              refine z_aload F dX1_falls_143 rfl ?_
              refine z_aload F dX1_falls_145 rfl ?_
              refine z_iload_n F dX1_falls_147 rfl ?_
              refine z_iload F dX1_falls_148 rfl ?_
              refine z_iload F dX1_falls_150 rfl ?_
              refine z_callV F (c_xleft00 t fp sn g sm Df n d kind f  h hk) 5 rfl (lw_V q1071 q1073 qs23 q109 q1074) (by decide +kernel) ⟨Nat.le_of_ble_eq_true rfl, Nat.le_of_ble_eq_true rfl⟩ ⟨by omega, by omega⟩ [0, 1, 2, 3, 4, 5, 6, 7, 8, 9, 10, 11, 12, 13, 14, 15, 16, 17, 18, 19, 20, 21, 22, 23, 24] 25 ⟨rfl, rfl, rfl, ⟨Or.inl rfl, Or.inr rfl, Or.inl rfl, Or.inr rfl, Or.inr rfl, Or.inl rfl, Or.inl rfl, Or.inl rfl, Or.inl rfl, Or.inl rfl, Or.inl rfl, Or.inl rfl, Or.inl rfl, Or.inl rfl, Or.inl rfl, Or.inl rfl, Or.inl rfl, Or.inl rfl, Or.inl rfl, Or.inl rfl, Or.inl rfl, Or.inl rfl, Or.inr rfl, Or.inr rfl, Or.inr rfl, trivial⟩⟩ (fun h => nomatch h) (Nat.le_of_ble_eq_true rfl) ⟨⟨Or.inr (by first | exact ⟨rfl, pR_B _ (by decide)⟩ | exact ⟨rfl, uR_B (by decide) (by decide)⟩), Or.inl rfl, Or.inr trivial, Or.inl rfl, Or.inl rfl, Or.inr trivial, Or.inr trivial, Or.inr trivial, Or.inr trivial, Or.inr rfl, Or.inr trivial, Or.inr trivial, Or.inr trivial, Or.inr trivial, Or.inr trivial, Or.inr trivial, Or.inr trivial, Or.inr trivial, Or.inr trivial, Or.inr trivial, Or.inr trivial, Or.inr trivial, Or.inl rfl, Or.inl rfl, Or.inl rfl, trivial⟩, rfl, rfl, rfl, Nat.le_of_ble_eq_true rfl⟩ rfl zC1 rfl rfl dX1_falls_152 (fun r_152 w_152 hp => ?_) (fun _ _ h => h.elim)
              obtain ⟨rfl, sn1, g1, sm1, D1, rfl⟩ := hp
              refine z_weq (w' := [zPl _ _, zO _ [zr _ _, zr _ _, zr _ _, zr _ _, zr _ _, zi _, zi _, zr _ _, zr _ _], zH, zO _ [zr _ _, zi _, zi _, zi _], zAi 0 24 _, zH, zH, zH, zH, zO _ [zi _, zq _, zi _], zH, zH, zH, zH, zH, zH, zH, zH, zH, zH, zH, zH, zO _ [zi _, zi _, zr _ _], zAi 0 24 _, zAi 0 (prs n f).length _]) rfl ?_
              refine z_seq (S' := zi _ :: _) rfl ?_
              refine z_istore F dX1_falls_155 (Nat.le_of_ble_eq_true rfl) ?_
              refine z_leq (L' := [_, _, _, _, _, _, _, _, _, _, _, _, _]) rfl ?_
              refine z_iload F dX1_falls_157 rfl ?_
              refine z_iload F dX1_falls_159 rfl ?_
              refine z_icmp_gt F (tgt := 167) dX1_falls_161 (by decide) (fun c_161 => ?_) (fun c_161 => ?_)
              · refine z_iload F dX1_falls_167 rfl ?_
                refine z_istore F dX1_falls_169 (Nat.le_of_ble_eq_true rfl) ?_
                refine z_leq (L' := [_, _, _, _, _, _, _, _, _, _, _, _, _]) rfl ?_
                refine z_iload F dX1_falls_171 rfl ?_
                refine z_istore F dX1_falls_173 (Nat.le_of_ble_eq_true rfl) ?_
                refine z_leq (L' := [_, _, _, _, _, _, _, _, _, _, _, _, _]) rfl ?_
                refine z_iload F dX1_falls_175 rfl ?_
                refine z_istore F dX1_falls_177 (Nat.le_of_ble_eq_true rfl) ?_
                refine z_leq (L' := [_, _, _, _, _, _, _, _, _, _, _, _, _]) rfl ?_
                refine z_iinc F (nI 0) dX1_falls_179 rfl (rfl) ?_
                refine z_leq (L' := [_, _, _, _, _, _, _, _, _, _, _, _, _]) rfl ?_
                refine z_goto F (tgt := 126) dX1_falls_182 (by decide) ?_
                refine z_loc _ ?_ (ex sn1 g1 sm1 D1)
                exact ⟨rfl, rfl, rfl, rfl, rfl, rfl, rfl, rfl, rfl, rfl, rfl, trivial⟩
              · exact absurd (neg_lt _ (by omega)) c_161
          · exact absurd c_130 (by omega)
        · exact absurd c_113 (by omega)
    · exact absurd c_99 (by omega)
  have z1 : many = 1 → ¬ few many kind n f → ∀ (u i : Nat) (sn g sm : Int32) (Df : Nat → Int32), flN kind n f - i < u → i ≤ flN kind n f → Z X [some (zr 1 0), none, some (zi (nI kind)), some (zi (nI many)), some (zr 22 0), some (zr 24 0), some (zi (nI (flN kind n f))), some (zi (fvI (fa1 (flV n f kind) i))), some (zi (faI (fa1 (flV n f kind) i))), some (zi (-1)), some (zi (nI i)), none, none] [] (xFf P t fp sn g sm Df (eLs m0 0 (zq (X.2.2.1.2 1001 1))) zH j n d f) 4 118 96 := by
    intro em hnf u
    induction u with
    | zero => intro i sn g sm Df hu; omega
    | succ u ih =>
      intro i sn g sm Df hu hi
      have hO : flO many kind n f = fa1 (flV n f kind) (flN kind n f) := by unfold flO; rw [if_neg (by omega), if_pos em]
      have hB := fa1_B (N := flN kind n f) (flV_le n f kind) i hi
      have hle := flV_le n f kind i i
      have ex : i < flN kind n f → ∀ (sn g sm : Int32) (Df : Nat → Int32), Z X [some (zr 1 0), none, some (zi (nI kind)), some (zi (nI many)), some (zr 22 0), some (zr 24 0), some (zi (nI (flN kind n f))), some (zi (fvI (fa1 (flV n f kind) (i + 1)))), some (zi (faI (fa1 (flV n f kind) (i + 1)))), some (zi (-1)), some (zi (nI i)), some (zi (nI 0)), none] [] (xFf P t fp sn g sm Df (eLs m0 0 (zq (X.2.2.1.2 1001 1))) zH j n d f) 4 118 126 := by
        intro hil sn g sm Df
        refine z_iload F dX1_falls_126 rfl ?_
        refine z_iload_n F dX1_falls_128 rfl ?_
        refine z_iconst F (nI 1) dX1_falls_129 rfl ?_
        refine z_icmp_leN F (by omega) (by omega) (tgt := 138) dX1_falls_130 (by decide) (fun c_130 => ?_) (fun c_130 => ?_)
        · refine z_iconst F (nI 0) dX1_falls_138 rfl ?_
          refine z_icmp_geN F (by omega) (by omega) (tgt := 185) dX1_falls_139 (by decide) (fun c_139 => ?_) (fun c_139 => ?_)
          · refine z_iincN F 1 dX1_falls_185 rfl rfl ?_
            refine z_leq (L' := [_, _, _, _, _, _, _, _, _, _, _, _, _]) rfl ?_
            refine z_goto F (tgt := 96) dX1_falls_188 (by decide) ?_
            refine z_loc _ ?_ (ih (i + 1) sn g sm Df (by omega) (by omega))
            exact ⟨rfl, rfl, rfl, rfl, rfl, rfl, rfl, rfl, rfl, rfl, trivial⟩
          · exact absurd c_139 (by omega)
        · exact absurd c_130 (by omega)
      refine z_iload F dX1_falls_96 rfl ?_
      refine z_iload_n F dX1_falls_98 rfl ?_
      refine z_if_leN F (by omega) (tgt := 107) dX1_falls_99 (by decide) (fun c_99 => ?_) (fun c_99 => ?_)
      · exact absurd c_99 (by omega)
      · refine z_iload F dX1_falls_102 rfl ?_
        refine z_goto F (tgt := 108) dX1_falls_104 (by decide) ?_
        refine z_icmp_geN F (by omega) (by omega) (tgt := 191) dX1_falls_108 (by decide) (fun c_108 => ?_) (fun c_108 => ?_)
        · have ei : i = flN kind n f := by omega
          subst ei
          obtain ⟨b, hb1, hb2, hb3, -⟩ := flO_s (by omega) hnf
          rw [hO] at hb1
          have hb4 := hb3 (by omega)
          rw [hb1]
          rw [hb1] at hO
          refine z_loc _ ?_ (e1 em hnf b.1 b.2.1 b.2.2 sn g sm Df hO (by omega))
          exact ⟨rfl, rfl, rfl, rfl, trivial⟩
        · refine z_iload_n F dX1_falls_111 rfl ?_
          refine z_iconst F (nI 1) dX1_falls_112 rfl ?_
          refine z_icmp_leN F (by omega) (by omega) (tgt := 123) dX1_falls_113 (by decide) (fun c_113 => ?_) (fun c_113 => ?_)
          · refine z_iconst F (-1) dX1_falls_123 rfl ?_
            refine z_istore F dX1_falls_124 (Nat.le_of_ble_eq_true rfl) ?_
            refine z_leq (L' := [_, _, _, _, _, _, _, _, _, _, _, _, _]) rfl ?_
            refine z_iload F dX1_falls_126 rfl ?_
            refine z_iload_n F dX1_falls_128 rfl ?_
            refine z_iconst F (nI 1) dX1_falls_129 rfl ?_
            refine z_icmp_leN F (by omega) (by omega) (tgt := 138) dX1_falls_130 (by decide) (fun c_130 => ?_) (fun c_130 => ?_)
            · refine z_iconst F (nI 0) dX1_falls_138 rfl ?_
              refine z_icmp_ge F (tgt := 185) dX1_falls_139 (by decide) (fun c_139 => ?_) (fun c_139 => ?_)
              · exact absurd c_139 (by decide)
              · refine z_aload_n F dX1_falls_142 rfl ?_
                refine z_aload F dX1_falls_143 rfl ?_
                refine z_aload F dX1_falls_145 rfl ?_
                refine z_iload_n F dX1_falls_147 rfl ?_
                refine z_iload F dX1_falls_148 rfl ?_
                refine z_iload F dX1_falls_150 rfl ?_
                refine z_callV F (c_xleft10 t fp sn g sm Df n d kind f i (by omega) h hk) 5 rfl (lw_V q1071 q1073 qs23 q109 q1074) (by decide +kernel) ⟨Nat.le_of_ble_eq_true rfl, Nat.le_of_ble_eq_true rfl⟩ ⟨by omega, by omega⟩ [0, 1, 2, 3, 4, 5, 6, 7, 8, 9, 10, 11, 12, 13, 14, 15, 16, 17, 18, 19, 20, 21, 22, 23, 24] 25 ⟨rfl, rfl, rfl, ⟨Or.inl rfl, Or.inr rfl, Or.inl rfl, Or.inr rfl, Or.inr rfl, Or.inl rfl, Or.inl rfl, Or.inl rfl, Or.inl rfl, Or.inl rfl, Or.inl rfl, Or.inl rfl, Or.inl rfl, Or.inl rfl, Or.inl rfl, Or.inl rfl, Or.inl rfl, Or.inl rfl, Or.inl rfl, Or.inl rfl, Or.inl rfl, Or.inl rfl, Or.inr rfl, Or.inr rfl, Or.inr rfl, trivial⟩⟩ (fun h => nomatch h) (Nat.le_of_ble_eq_true rfl) ⟨⟨Or.inr (by first | exact ⟨rfl, pR_B _ (by decide)⟩ | exact ⟨rfl, uR_B (by decide) (by decide)⟩), Or.inl rfl, Or.inr trivial, Or.inl rfl, Or.inl rfl, Or.inr trivial, Or.inr trivial, Or.inr trivial, Or.inr trivial, Or.inr rfl, Or.inr trivial, Or.inr trivial, Or.inr trivial, Or.inr trivial, Or.inr trivial, Or.inr trivial, Or.inr trivial, Or.inr trivial, Or.inr trivial, Or.inr trivial, Or.inr trivial, Or.inr trivial, Or.inl rfl, Or.inl rfl, Or.inl rfl, trivial⟩, rfl, rfl, rfl, Nat.le_of_ble_eq_true rfl⟩ rfl zC1 rfl rfl dX1_falls_152 (fun r_152 w_152 hp => ?_) (fun _ _ h => h.elim)
                obtain ⟨rfl, sn1, g1, sm1, D1, rfl⟩ := hp
                refine z_weq (w' := [zPl _ _, zO _ [zr _ _, zr _ _, zr _ _, zr _ _, zr _ _, zi _, zi _, zr _ _, zr _ _], zH, zO _ [zr _ _, zi _, zi _, zi _], zAi 0 24 _, zH, zH, zH, zH, zO _ [zi _, zq _, zi _], zH, zH, zH, zH, zH, zH, zH, zH, zH, zH, zH, zH, zO _ [zi _, zi _, zr _ _], zAi 0 24 _, zAi 0 (prs n f).length _]) rfl ?_
                refine z_seq (S' := zi _ :: _) rfl ?_
                refine z_istore F dX1_falls_155 (Nat.le_of_ble_eq_true rfl) ?_
                refine z_leq (L' := [_, _, _, _, _, _, _, _, _, _, _, _, _]) rfl ?_
                refine z_iload F dX1_falls_157 rfl ?_
                refine z_iload F dX1_falls_159 rfl ?_
                refine z_icmp_gt F (tgt := 167) dX1_falls_161 (by decide) (fun c_161 => ?_) (fun c_161 => ?_)
                · refine z_iload F dX1_falls_167 rfl ?_
                  refine z_istore F dX1_falls_169 (Nat.le_of_ble_eq_true rfl) ?_
                  refine z_leq (L' := [_, _, _, _, _, _, _, _, _, _, _, _, _]) rfl ?_
                  refine z_iload F dX1_falls_171 rfl ?_
                  refine z_istore F dX1_falls_173 (Nat.le_of_ble_eq_true rfl) ?_
                  refine z_leq (L' := [_, _, _, _, _, _, _, _, _, _, _, _, _]) rfl ?_
                  refine z_iload F dX1_falls_175 rfl ?_
                  refine z_istore F dX1_falls_177 (Nat.le_of_ble_eq_true rfl) ?_
                  refine z_leq (L' := [_, _, _, _, _, _, _, _, _, _, _, _, _]) rfl ?_
                  refine z_iinc F (nI 0) dX1_falls_179 rfl (rfl) ?_
                  refine z_leq (L' := [_, _, _, _, _, _, _, _, _, _, _, _, _]) rfl ?_
                  refine z_goto F (tgt := 126) dX1_falls_182 (by decide) ?_
                  have e9 : fa1 (flV n f kind) (i + 1) = some (flV n f kind i i, i, i) := fax_lt hB hle c_161
                  have hx := ex (by omega) sn1 g1 sm1 D1
                  rw [e9] at hx
                  refine z_loc _ ?_ hx
                  exact ⟨rfl, rfl, rfl, rfl, rfl, rfl, rfl, rfl, rfl, rfl, rfl, trivial⟩
                · refine z_goto F (tgt := 179) dX1_falls_164 (by decide) ?_
                  refine z_iinc F (nI 0) dX1_falls_179 rfl (rfl) ?_
                  refine z_leq (L' := [_, _, _, _, _, _, _, _, _, _, _, _, _]) rfl ?_
                  refine z_goto F (tgt := 126) dX1_falls_182 (by decide) ?_
                  have e9 : fa1 (flV n f kind) (i + 1) = fa1 (flV n f kind) i := fax_ge hB hle c_161
                  have hx := ex (by omega) sn1 g1 sm1 D1
                  rw [e9] at hx
                  refine z_loc _ ?_ hx
                  exact ⟨rfl, rfl, rfl, rfl, rfl, rfl, rfl, rfl, rfl, rfl, rfl, trivial⟩
            · exact absurd c_130 (by omega)
          · exact absurd c_113 (by omega)
  have z2 : many = 2 → ¬ few many kind n f → ∀ (u i : Nat) (sn g sm : Int32) (Df : Nat → Int32), flN kind n f - i < u → i ≤ flN kind n f → Z X [some (zr 1 0), none, some (zi (nI kind)), some (zi (nI many)), some (zr 22 0), some (zr 24 0), some (zi (nI (flN kind n f))), some (zi (fvI (fa2 (flV n f kind) (flN kind n f) i))), some (zi (faI (fa2 (flV n f kind) (flN kind n f) i))), some (zi (fbI (fa2 (flV n f kind) (flN kind n f) i))), some (zi (nI i)), none, none] [] (xFf P t fp sn g sm Df (eLs m0 0 (zq (X.2.2.1.2 1001 1))) zH j n d f) 4 118 96 := by
    intro em hnf u
    induction u with
    | zero => intro i sn g sm Df hu; omega
    | succ u ih =>
      intro i sn g sm Df hu hi
      have hO : flO many kind n f = fa2 (flV n f kind) (flN kind n f) (flN kind n f) := by unfold flO; rw [if_neg (by omega), if_neg (by omega)]
      have hB0 := fa2_B (N := flN kind n f) (flV_le n f kind) i
      have inn : i < flN kind n f → ∀ (u2 q : Nat) (sn g sm : Int32) (Df : Nat → Int32), flN kind n f - q < u2 → i < q → q ≤ flN kind n f → Z X [some (zr 1 0), none, some (zi (nI kind)), some (zi (nI many)), some (zr 22 0), some (zr 24 0), some (zi (nI (flN kind n f))), some (zi (fvI (faR (flV n f kind) i (fa2 (flV n f kind) (flN kind n f) i) q))), some (zi (faI (faR (flV n f kind) i (fa2 (flV n f kind) (flN kind n f) i) q))), some (zi (fbI (faR (flV n f kind) i (fa2 (flV n f kind) (flN kind n f) i) q))), some (zi (nI i)), some (zi (nI q)), none] [] (xFf P t fp sn g sm Df (eLs m0 0 (zq (X.2.2.1.2 1001 1))) zH j n d f) 4 118 126 := by
        intro hil u2
        induction u2 with
        | zero => intro q sn g sm Df hu2; omega
        | succ u2 ih2 =>
          intro q sn g sm Df hu2 hiq hq
          have hB := faR_B (i := i) (flV_le n f kind) hB0 q hq
          have hle := flV_le n f kind i q
          have ex : faR (flV n f kind) i (fa2 (flV n f kind) (flN kind n f) i) (q + 1) = fax (faR (flV n f kind) i (fa2 (flV n f kind) (flN kind n f) i) q) (flV n f kind i q) i q := if_pos hiq
          refine z_iload F dX1_falls_126 rfl ?_
          refine z_iload_n F dX1_falls_128 rfl ?_
          refine z_iconst F (nI 1) dX1_falls_129 rfl ?_
          refine z_icmp_leN F (by omega) (by omega) (tgt := 138) dX1_falls_130 (by decide) (fun c_130 => ?_) (fun c_130 => ?_)
          · exact absurd c_130 (by omega)
          · refine z_iload F dX1_falls_133 rfl ?_
            refine z_goto F (tgt := 139) dX1_falls_135 (by decide) ?_
            refine z_icmp_geN F (by omega) (by omega) (tgt := 185) dX1_falls_139 (by decide) (fun c_139 => ?_) (fun c_139 => ?_)
            · have eq_ : q = flN kind n f := by omega
              subst eq_
              refine z_iincN F 1 dX1_falls_185 rfl rfl ?_
              refine z_leq (L' := [_, _, _, _, _, _, _, _, _, _, _, _, _]) rfl ?_
              refine z_goto F (tgt := 96) dX1_falls_188 (by decide) ?_
              refine z_loc _ ?_ (ih (i + 1) sn g sm Df (by omega) (by omega))
              exact ⟨rfl, rfl, rfl, rfl, rfl, rfl, rfl, rfl, rfl, rfl, trivial⟩
            · refine z_aload_n F dX1_falls_142 rfl ?_
              refine z_aload F dX1_falls_143 rfl ?_
              refine z_aload F dX1_falls_145 rfl ?_
              refine z_iload_n F dX1_falls_147 rfl ?_
              refine z_iload F dX1_falls_148 rfl ?_
              refine z_iload F dX1_falls_150 rfl ?_
              refine z_callV F (c_xleft11 t fp sn g sm Df n d kind f i q (by omega) (by omega) h hk) 5 rfl (lw_V q1071 q1073 qs23 q109 q1074) (by decide +kernel) ⟨Nat.le_of_ble_eq_true rfl, Nat.le_of_ble_eq_true rfl⟩ ⟨by omega, by omega⟩ [0, 1, 2, 3, 4, 5, 6, 7, 8, 9, 10, 11, 12, 13, 14, 15, 16, 17, 18, 19, 20, 21, 22, 23, 24] 25 ⟨rfl, rfl, rfl, ⟨Or.inl rfl, Or.inr rfl, Or.inl rfl, Or.inr rfl, Or.inr rfl, Or.inl rfl, Or.inl rfl, Or.inl rfl, Or.inl rfl, Or.inl rfl, Or.inl rfl, Or.inl rfl, Or.inl rfl, Or.inl rfl, Or.inl rfl, Or.inl rfl, Or.inl rfl, Or.inl rfl, Or.inl rfl, Or.inl rfl, Or.inl rfl, Or.inl rfl, Or.inr rfl, Or.inr rfl, Or.inr rfl, trivial⟩⟩ (fun h => nomatch h) (Nat.le_of_ble_eq_true rfl) ⟨⟨Or.inr (by first | exact ⟨rfl, pR_B _ (by decide)⟩ | exact ⟨rfl, uR_B (by decide) (by decide)⟩), Or.inl rfl, Or.inr trivial, Or.inl rfl, Or.inl rfl, Or.inr trivial, Or.inr trivial, Or.inr trivial, Or.inr trivial, Or.inr rfl, Or.inr trivial, Or.inr trivial, Or.inr trivial, Or.inr trivial, Or.inr trivial, Or.inr trivial, Or.inr trivial, Or.inr trivial, Or.inr trivial, Or.inr trivial, Or.inr trivial, Or.inr trivial, Or.inl rfl, Or.inl rfl, Or.inl rfl, trivial⟩, rfl, rfl, rfl, Nat.le_of_ble_eq_true rfl⟩ rfl zC1 rfl rfl dX1_falls_152 (fun r_152 w_152 hp => ?_) (fun _ _ h => h.elim)
              obtain ⟨rfl, sn1, g1, sm1, D1, rfl⟩ := hp
              refine z_weq (w' := [zPl _ _, zO _ [zr _ _, zr _ _, zr _ _, zr _ _, zr _ _, zi _, zi _, zr _ _, zr _ _], zH, zO _ [zr _ _, zi _, zi _, zi _], zAi 0 24 _, zH, zH, zH, zH, zO _ [zi _, zq _, zi _], zH, zH, zH, zH, zH, zH, zH, zH, zH, zH, zH, zH, zO _ [zi _, zi _, zr _ _], zAi 0 24 _, zAi 0 (prs n f).length _]) rfl ?_
              refine z_seq (S' := zi _ :: _) rfl ?_
              refine z_istore F dX1_falls_155 (Nat.le_of_ble_eq_true rfl) ?_
              refine z_leq (L' := [_, _, _, _, _, _, _, _, _, _, _, _, _]) rfl ?_
              refine z_iload F dX1_falls_157 rfl ?_
              refine z_iload F dX1_falls_159 rfl ?_
              refine z_icmp_gt F (tgt := 167) dX1_falls_161 (by decide) (fun c_161 => ?_) (fun c_161 => ?_)
              · refine z_iload F dX1_falls_167 rfl ?_
                refine z_istore F dX1_falls_169 (Nat.le_of_ble_eq_true rfl) ?_
                refine z_leq (L' := [_, _, _, _, _, _, _, _, _, _, _, _, _]) rfl ?_
                refine z_iload F dX1_falls_171 rfl ?_
                refine z_istore F dX1_falls_173 (Nat.le_of_ble_eq_true rfl) ?_
                refine z_leq (L' := [_, _, _, _, _, _, _, _, _, _, _, _, _]) rfl ?_
                refine z_iload F dX1_falls_175 rfl ?_
                refine z_istore F dX1_falls_177 (Nat.le_of_ble_eq_true rfl) ?_
                refine z_leq (L' := [_, _, _, _, _, _, _, _, _, _, _, _, _]) rfl ?_
                refine z_iincN F 1 dX1_falls_179 rfl rfl ?_
                refine z_leq (L' := [_, _, _, _, _, _, _, _, _, _, _, _, _]) rfl ?_
                refine z_goto F (tgt := 126) dX1_falls_182 (by decide) ?_
                have hx := ih2 (q + 1) sn1 g1 sm1 D1 (by omega) (by omega) (by omega)
                rw [ex, fax_lt hB hle c_161] at hx
                refine z_loc _ ?_ hx
                exact ⟨rfl, rfl, rfl, rfl, rfl, rfl, rfl, rfl, rfl, rfl, rfl, trivial⟩
              · refine z_goto F (tgt := 179) dX1_falls_164 (by decide) ?_
                refine z_iincN F 1 dX1_falls_179 rfl rfl ?_
                refine z_leq (L' := [_, _, _, _, _, _, _, _, _, _, _, _, _]) rfl ?_
                refine z_goto F (tgt := 126) dX1_falls_182 (by decide) ?_
                have hx := ih2 (q + 1) sn1 g1 sm1 D1 (by omega) (by omega) (by omega)
                rw [ex, fax_ge hB hle c_161] at hx
                refine z_loc _ ?_ hx
                exact ⟨rfl, rfl, rfl, rfl, rfl, rfl, rfl, rfl, rfl, rfl, rfl, trivial⟩
      refine z_iload F dX1_falls_96 rfl ?_
      refine z_iload_n F dX1_falls_98 rfl ?_
      refine z_if_leN F (by omega) (tgt := 107) dX1_falls_99 (by decide) (fun c_99 => ?_) (fun c_99 => ?_)
      · exact absurd c_99 (by omega)
      · refine z_iload F dX1_falls_102 rfl ?_
        refine z_goto F (tgt := 108) dX1_falls_104 (by decide) ?_
        refine z_icmp_geN F (by omega) (by omega) (tgt := 191) dX1_falls_108 (by decide) (fun c_108 => ?_) (fun c_108 => ?_)
        · have ei : i = flN kind n f := by omega
          subst ei
          obtain ⟨b, hb1, hb2, hb3, hb5⟩ := flO_s (by omega) hnf
          rw [hO] at hb1
          have hb4 := hb3 (by omega)
          have hb6 := hb5 (by omega)
          rw [hb1]
          rw [hb1] at hO
          refine z_loc _ ?_ (e2 em hnf b.1 b.2.1 b.2.2 sn g sm Df hO (by omega) (by omega))
          exact ⟨rfl, rfl, rfl, rfl, trivial⟩
        · refine z_iload_n F dX1_falls_111 rfl ?_
          refine z_iconst F (nI 1) dX1_falls_112 rfl ?_
          refine z_icmp_leN F (by omega) (by omega) (tgt := 123) dX1_falls_113 (by decide) (fun c_113 => ?_) (fun c_113 => ?_)
          · exact absurd c_113 (by omega)
          · refine z_iload F dX1_falls_116 rfl ?_
            refine z_iconst F (nI 1) dX1_falls_118 rfl ?_
            refine z_iaddN F dX1_falls_119 ?_
            refine z_goto F (tgt := 124) dX1_falls_120 (by decide) ?_
            refine z_istore F dX1_falls_124 (Nat.le_of_ble_eq_true rfl) ?_
            refine z_leq (L' := [_, _, _, _, _, _, _, _, _, _, _, _, _]) rfl ?_
            have e9 := faR_ge (val := flV n f kind) (i := i) (o := fa2 (flV n f kind) (flN kind n f) i) (i + 1) (Nat.le_refl _)
            have nx := inn (by omega) (flN kind n f + 1) (i + 1) sn g sm Df (by omega) (by omega) (by omega)
            rw [e9] at nx
            exact nx
  have at55 : ∀ (v : Int32), v = nI (flN kind n f) → Z X [some (zr 1 0), none, some (zi (nI kind)), some (zi (nI many)), some (zr 22 0), some (zr 24 0), none, none, none, none, none, none, none] [zi v] (xFf P t fp sn0 g0 sm0 Df0 (eLs m0 0 (zq (X.2.2.1.2 1001 1))) zH j n d f) 4 118 55 := by
    intro v hv
    subst hv
    refine z_istore F dX1_falls_55 (Nat.le_of_ble_eq_true rfl) ?_
    refine z_leq (L' := [_, _, _, _, _, _, _, _, _, _, _, _, _]) rfl ?_
    refine z_iload_n F dX1_falls_57 rfl ?_
    refine z_iload F dX1_falls_58 rfl ?_
    refine z_icmp_gtN F (by omega) (by omega) (tgt := 74) dX1_falls_60 (by decide) (fun c_60 => ?_) (fun c_60 => ?_)
    · refine z_loc [some _, none, some _, some _, none, none, some _, none, none, none, none, none, none] ⟨rfl, rfl, rfl, rfl, trivial⟩ ?_
      refine z_unfocus F rfl j 22 23 22 hj zput_self rfl rfl (Nat.le_of_ble_eq_true rfl) (Nat.le_of_ble_eq_true rfl) (Nat.le_of_ble_eq_true rfl) (Nat.le_of_ble_eq_true rfl) [zO _ [zr _ _, zr _ _, zr _ _, zr _ _, zr _ _, zi _, zi _, zr _ _, zr _ _], zH, zO _ [zr _ _, zi _, zi _, zi _], zAi 0 24 _, zH, zH, zH, zH, zO _ [zi _, zq _, zi _], zH, zH, zH, zH, zH, zH, zH, zH, zH, zH, zH, zH] rfl ⟨rfl, trivial, rfl, trivial, trivial, trivial, trivial, trivial, rfl, trivial, trivial, trivial, trivial, trivial, trivial, trivial, trivial, trivial, trivial, trivial, trivial, trivial⟩ uOK rfl rfl ?_
      refine z_weq (w' := zPl (pR (zput P j (some _))) (zput P j (some _)) :: _) (congrArg (fun z => z :: _) uPl2) ?_
      refine z_iconst F (-1) dX1_falls_74 rfl ?_
      exact z_iret F E rfl dX1_falls_75 (by omega) (by omega) (⟨sn0, g0, sm0, Df0, Or.inl ⟨Or.inl (by omega), rfl, by rw [zput_some hP] <;> rfl⟩⟩)
    · refine z_iload_n F dX1_falls_63 rfl ?_
      refine z_iconst F (nI 1) dX1_falls_64 rfl ?_
      refine z_icmp_neN F (by omega) (by omega) (tgt := 76) dX1_falls_65 (by decide) (fun c_65 => ?_) (fun c_65 => ?_)
      · have hnf : ¬ few many kind n f := fun z => z.elim (fun z => by omega) (fun z => by omega)
        refine z_iconst F (-1) dX1_falls_76 rfl ?_
        refine z_istore F dX1_falls_77 (Nat.le_of_ble_eq_true rfl) ?_
        refine z_leq (L' := [_, _, _, _, _, _, _, _, _, _, _, _, _]) rfl ?_
        refine z_iconst F (-1) dX1_falls_79 rfl ?_
        refine z_istore F dX1_falls_80 (Nat.le_of_ble_eq_true rfl) ?_
        refine z_leq (L' := [_, _, _, _, _, _, _, _, _, _, _, _, _]) rfl ?_
        refine z_iconst F (-1) dX1_falls_82 rfl ?_
        refine z_istore F dX1_falls_83 (Nat.le_of_ble_eq_true rfl) ?_
        refine z_leq (L' := [_, _, _, _, _, _, _, _, _, _, _, _, _]) rfl ?_
        refine z_iload_n F dX1_falls_85 rfl ?_
        refine z_if_leN F (by omega) (tgt := 93) dX1_falls_86 (by decide) (fun c_86 => ?_) (fun c_86 => ?_)
        · refine z_iconst F (-1) dX1_falls_93 rfl ?_
          refine z_istore F dX1_falls_94 (Nat.le_of_ble_eq_true rfl) ?_
          refine z_leq (L' := [_, _, _, _, _, _, _, _, _, _, _, _, _]) rfl ?_
          exact z0 (by omega) hnf sn0 g0 sm0 Df0
        · refine z_iconst F (nI 0) dX1_falls_89 rfl ?_
          refine z_goto F (tgt := 94) dX1_falls_90 (by decide) ?_
          refine z_istore F dX1_falls_94 (Nat.le_of_ble_eq_true rfl) ?_
          refine z_leq (L' := [_, _, _, _, _, _, _, _, _, _, _, _, _]) rfl ?_
          rcases (show many = 1 ∨ many = 2 by omega) with e1_ | e2_
          · exact z1 e1_ hnf (flN kind n f + 1) 0 sn0 g0 sm0 Df0 (by omega) (by omega)
          · exact z2 e2_ hnf (flN kind n f + 1) 0 sn0 g0 sm0 Df0 (by omega) (by omega)
      · refine z_iload_n F dX1_falls_68 rfl ?_
        refine z_iload F dX1_falls_69 rfl ?_
        refine z_icmp_neN F (by omega) (by omega) (tgt := 76) dX1_falls_71 (by decide) (fun c_71 => ?_) (fun c_71 => ?_)
        · have hnf : ¬ few many kind n f := fun z => z.elim (fun z => by omega) (fun z => by rw [flN, if_neg (by omega)] at c_71; omega)
          refine z_iconst F (-1) dX1_falls_76 rfl ?_
          refine z_istore F dX1_falls_77 (Nat.le_of_ble_eq_true rfl) ?_
          refine z_leq (L' := [_, _, _, _, _, _, _, _, _, _, _, _, _]) rfl ?_
          refine z_iconst F (-1) dX1_falls_79 rfl ?_
          refine z_istore F dX1_falls_80 (Nat.le_of_ble_eq_true rfl) ?_
          refine z_leq (L' := [_, _, _, _, _, _, _, _, _, _, _, _, _]) rfl ?_
          refine z_iconst F (-1) dX1_falls_82 rfl ?_
          refine z_istore F dX1_falls_83 (Nat.le_of_ble_eq_true rfl) ?_
          refine z_leq (L' := [_, _, _, _, _, _, _, _, _, _, _, _, _]) rfl ?_
          refine z_iload_n F dX1_falls_85 rfl ?_
          refine z_if_leN F (by omega) (tgt := 93) dX1_falls_86 (by decide) (fun c_86 => ?_) (fun c_86 => ?_)
          · refine z_iconst F (-1) dX1_falls_93 rfl ?_
            refine z_istore F dX1_falls_94 (Nat.le_of_ble_eq_true rfl) ?_
            refine z_leq (L' := [_, _, _, _, _, _, _, _, _, _, _, _, _]) rfl ?_
            exact z0 (by omega) hnf sn0 g0 sm0 Df0
          · refine z_iconst F (nI 0) dX1_falls_89 rfl ?_
            refine z_goto F (tgt := 94) dX1_falls_90 (by decide) ?_
            refine z_istore F dX1_falls_94 (Nat.le_of_ble_eq_true rfl) ?_
            refine z_leq (L' := [_, _, _, _, _, _, _, _, _, _, _, _, _]) rfl ?_
            rcases (show many = 1 ∨ many = 2 by omega) with e1_ | e2_
            · exact z1 e1_ hnf (flN kind n f + 1) 0 sn0 g0 sm0 Df0 (by omega) (by omega)
            · exact z2 e2_ hnf (flN kind n f + 1) 0 sn0 g0 sm0 Df0 (by omega) (by omega)
        · refine z_loc [some _, none, some _, some _, none, none, some _, none, none, none, none, none, none] ⟨rfl, rfl, rfl, rfl, trivial⟩ ?_
          refine z_unfocus F rfl j 22 23 22 hj zput_self rfl rfl (Nat.le_of_ble_eq_true rfl) (Nat.le_of_ble_eq_true rfl) (Nat.le_of_ble_eq_true rfl) (Nat.le_of_ble_eq_true rfl) [zO _ [zr _ _, zr _ _, zr _ _, zr _ _, zr _ _, zi _, zi _, zr _ _, zr _ _], zH, zO _ [zr _ _, zi _, zi _, zi _], zAi 0 24 _, zH, zH, zH, zH, zO _ [zi _, zq _, zi _], zH, zH, zH, zH, zH, zH, zH, zH, zH, zH, zH, zH] rfl ⟨rfl, trivial, rfl, trivial, trivial, trivial, trivial, trivial, rfl, trivial, trivial, trivial, trivial, trivial, trivial, trivial, trivial, trivial, trivial, trivial, trivial, trivial⟩ uOK rfl rfl ?_
          refine z_weq (w' := zPl (pR (zput P j (some _))) (zput P j (some _)) :: _) (congrArg (fun z => z :: _) uPl2) ?_
          refine z_iconst F (-1) dX1_falls_74 rfl ?_
          exact z_iret F E rfl dX1_falls_75 (by omega) (by omega) (⟨sn0, g0, sm0, Df0, Or.inl ⟨Or.inr ⟨by omega, by rw [flN, if_neg (by omega)] at c_71; omega⟩, rfl, by rw [zput_some hP] <;> rfl⟩⟩)
  refine z_aload_n F dX1_falls_0 rfl ?_
  refine z_iload_n F dX1_falls_1 rfl ?_
  refine z_callV F (c_netAt_ok P t fp j hj hP) 1 rfl (lw_V q429 q431 qs0 q109 q432) (by decide +kernel) ⟨Nat.le_of_ble_eq_true rfl, Nat.le_of_ble_eq_true rfl⟩ ⟨by omega, by omega⟩ [0, 1, 2, 3, 4, 5, 6, 7, 8, 9, 10, 11, 12, 13, 14, 15, 16, 17, 18, 19, 20, 21] 22 ⟨rfl, rfl, rfl, ⟨Or.inr (congrArg some (zrnP rfl).symm), Or.inr rfl, Or.inl rfl, Or.inl rfl, Or.inl rfl, Or.inl rfl, Or.inl rfl, Or.inl rfl, Or.inl rfl, Or.inl rfl, Or.inl rfl, Or.inl rfl, Or.inl rfl, Or.inl rfl, Or.inl rfl, Or.inl rfl, Or.inl rfl, Or.inl rfl, Or.inl rfl, Or.inl rfl, Or.inl rfl, Or.inl rfl, trivial⟩⟩ (fun _ => rfl) (Nat.le_of_ble_eq_true rfl) ⟨⟨Or.inl rfl, Or.inl rfl, Or.inr trivial, Or.inr rfl, Or.inr trivial, Or.inr trivial, Or.inr trivial, Or.inr trivial, Or.inr trivial, Or.inr rfl, Or.inr trivial, Or.inr trivial, Or.inr trivial, Or.inr trivial, Or.inr trivial, Or.inr trivial, Or.inr trivial, Or.inr trivial, Or.inr trivial, Or.inr trivial, Or.inr trivial, Or.inr trivial, trivial⟩, rfl, rfl, rfl, Nat.le_of_ble_eq_true rfl⟩ rfl zC1 rfl rfl dX1_falls_2 (fun r_2 w_2 hp => ?_) (fun _ _ h => h.elim)
  obtain ⟨rfl, rfl⟩ := hp
  refine z_weq (w' := zPl (pR _) _ :: _) (congrArg (fun z => z :: _) (zrnP rfl)) ?_
  refine z_weq (w' := [zPl _ _, zO _ [zr _ _, zr _ _, zr _ _, zr _ _, zr _ _, zi _, zi _, zr _ _, zr _ _], zH, zO _ [zr _ _, zi _, zi _, zi _], zAi 0 24 _, zH, zH, zH, zH, zO _ [zi _, zq _, zi _], zH, zH, zH, zH, zH, zH, zH, zH, zH, zH, zH, zH]) rfl ?_
  refine z_seq (S' := zr _ _ :: _) rfl ?_
  refine z_astore F dX1_falls_5 (Nat.le_of_ble_eq_true rfl) ?_
  refine z_leq (L' := [_, _, _, _, _, _, _, _, _, _, _, _, _]) rfl ?_
  refine z_foc F j hj hP (N := 22) (M := 23) (L' := [_, _, _, _, some (zr 22 0), _, _, _, _, _, _, _, _]) (S' := []) rfl rfl (Nat.le_of_ble_eq_true rfl) ⟨rfl, trivial, rfl, trivial, trivial, trivial, trivial, trivial, rfl, trivial, trivial, trivial, trivial, trivial, trivial, trivial, trivial, trivial, trivial, trivial, trivial, trivial⟩ ⟨Or.inl rfl, Or.inl rfl, Or.inl rfl, Or.inl rfl, Or.inr ⟨rfl, rfl⟩, Or.inl rfl, Or.inl rfl, Or.inl rfl, Or.inl rfl, Or.inl rfl, Or.inl rfl, Or.inl rfl, Or.inl rfl, trivial⟩ rfl trivial rfl ?_
  refine z_weq (w' := [zPl _ _, zO _ [zr _ _, zr _ _, zr _ _, zr _ _, zr _ _, zi _, zi _, zr _ _, zr _ _], zH, zO _ [zr _ _, zi _, zi _, zi _], zAi 0 24 _, zH, zH, zH, zH, zO _ [zi _, zq _, zi _], zH, zH, zH, zH, zH, zH, zH, zH, zH, zH, zH, zH, zO _ [zi _, zi _, zr _ _], zAi 0 24 _]) rfl ?_
  refine z_iload_n F dX1_falls_7 rfl ?_
  refine z_if_eqN F (by omega) (tgt := 16) dX1_falls_8 (by decide) (fun c_8 => ?_) (fun c_8 => ?_)
  · refine z_iconstB F true dX1_falls_16 rfl ?_
    refine z_goto F (tgt := 21) dX1_falls_17 (by decide) ?_
    refine z_callS F (c_fnd true) 1 rfl (lw_S q433 q434 q109 q435) (by decide +kernel) ⟨Nat.le_of_ble_eq_true rfl, Nat.le_of_ble_eq_true rfl⟩ ⟨by omega, by omega⟩ [0] 24 ⟨rfl, rfl, rfl, ⟨Or.inl rfl, trivial⟩⟩ (fun h => nomatch h) (Nat.le_of_ble_eq_true rfl) ⟨⟨Or.inr (by first | exact ⟨rfl, pR_B _ (by decide)⟩ | exact ⟨rfl, uR_B (by decide) (by decide)⟩), Or.inr rfl, Or.inr trivial, Or.inr rfl, Or.inr trivial, Or.inr trivial, Or.inr trivial, Or.inr trivial, Or.inr trivial, Or.inr rfl, Or.inr trivial, Or.inr trivial, Or.inr trivial, Or.inr trivial, Or.inr trivial, Or.inr trivial, Or.inr trivial, Or.inr trivial, Or.inr trivial, Or.inr trivial, Or.inr trivial, Or.inr trivial, Or.inr rfl, Or.inr trivial, trivial⟩, rfl, rfl, rfl, Nat.le_of_ble_eq_true rfl⟩ rfl rfl dX1_falls_21 (fun r_21 w_21 hp => ?_) (fun E_ w_ hx => by obtain ⟨-, hb, -⟩ := hx; cases hb)
    obtain ⟨rfl, -, rfl⟩ := hp
    refine z_weq (w' := [zPl _ _, zO _ [zr _ _, zr _ _, zr _ _, zr _ _, zr _ _, zi _, zi _, zr _ _, zr _ _], zH, zO _ [zr _ _, zi _, zi _, zi _], zAi 0 24 _, zH, zH, zH, zH, zO _ [zi _, zq _, zi _], zH, zH, zH, zH, zH, zH, zH, zH, zH, zH, zH, zH, zO _ [zi _, zi _, zr _ _], zAi 0 24 _]) rfl ?_
    refine z_seq (S' := []) rfl ?_
    refine z_iload_n F dX1_falls_24 rfl ?_
    refine z_iconst F (nI 0) dX1_falls_25 rfl ?_
    refine z_iconst F (nI 2) dX1_falls_26 rfl ?_
    refine z_callS F (c_in (nI many) (nI 0) (nI 2)) 3 rfl (lw_S q349 q350 q109 q351) (by decide +kernel) ⟨Nat.le_of_ble_eq_true rfl, Nat.le_of_ble_eq_true rfl⟩ ⟨by omega, by omega⟩ [0] 24 ⟨rfl, rfl, rfl, ⟨Or.inl rfl, trivial⟩⟩ (fun h => nomatch h) (Nat.le_of_ble_eq_true rfl) ⟨⟨Or.inr (by first | exact ⟨rfl, pR_B _ (by decide)⟩ | exact ⟨rfl, uR_B (by decide) (by decide)⟩), Or.inr rfl, Or.inr trivial, Or.inr rfl, Or.inr trivial, Or.inr trivial, Or.inr trivial, Or.inr trivial, Or.inr trivial, Or.inr rfl, Or.inr trivial, Or.inr trivial, Or.inr trivial, Or.inr trivial, Or.inr trivial, Or.inr trivial, Or.inr trivial, Or.inr trivial, Or.inr trivial, Or.inr trivial, Or.inr trivial, Or.inr trivial, Or.inr rfl, Or.inr trivial, trivial⟩, rfl, rfl, rfl, Nat.le_of_ble_eq_true rfl⟩ rfl rfl dX1_falls_27 (fun r_27 w_27 hp => ?_) (fun _ _ h => h.elim)
    obtain ⟨rfl, rfl⟩ := hp
    refine z_weq (w' := [zPl _ _, zO _ [zr _ _, zr _ _, zr _ _, zr _ _, zr _ _, zi _, zi _, zr _ _, zr _ _], zH, zO _ [zr _ _, zi _, zi _, zi _], zAi 0 24 _, zH, zH, zH, zH, zO _ [zi _, zq _, zi _], zH, zH, zH, zH, zH, zH, zH, zH, zH, zH, zH, zH, zO _ [zi _, zi _, zr _ _], zAi 0 24 _]) rfl ?_
    refine z_seq (S' := zi _ :: _) rfl ?_
    rw [show inB (nI many) (nI 0) (nI 2) = true from inB_n (by omega) (by omega) (by omega)]
    refine z_callS F (c_rgt true) 1 rfl (lw_S q538 q539 q109 q540) (by decide +kernel) ⟨Nat.le_of_ble_eq_true rfl, Nat.le_of_ble_eq_true rfl⟩ ⟨by omega, by omega⟩ [0] 24 ⟨rfl, rfl, rfl, ⟨Or.inl rfl, trivial⟩⟩ (fun h => nomatch h) (Nat.le_of_ble_eq_true rfl) ⟨⟨Or.inr (by first | exact ⟨rfl, pR_B _ (by decide)⟩ | exact ⟨rfl, uR_B (by decide) (by decide)⟩), Or.inr rfl, Or.inr trivial, Or.inr rfl, Or.inr trivial, Or.inr trivial, Or.inr trivial, Or.inr trivial, Or.inr trivial, Or.inr rfl, Or.inr trivial, Or.inr trivial, Or.inr trivial, Or.inr trivial, Or.inr trivial, Or.inr trivial, Or.inr trivial, Or.inr trivial, Or.inr trivial, Or.inr trivial, Or.inr trivial, Or.inr trivial, Or.inr rfl, Or.inr trivial, trivial⟩, rfl, rfl, rfl, Nat.le_of_ble_eq_true rfl⟩ rfl rfl dX1_falls_30 (fun r_30 w_30 hp => ?_) (fun E_ w_ hx => by obtain ⟨-, hb, -⟩ := hx; cases hb)
    obtain ⟨rfl, -, rfl⟩ := hp
    refine z_weq (w' := [zPl _ _, zO _ [zr _ _, zr _ _, zr _ _, zr _ _, zr _ _, zi _, zi _, zr _ _, zr _ _], zH, zO _ [zr _ _, zi _, zi _, zi _], zAi 0 24 _, zH, zH, zH, zH, zO _ [zi _, zq _, zi _], zH, zH, zH, zH, zH, zH, zH, zH, zH, zH, zH, zH, zO _ [zi _, zi _, zr _ _], zAi 0 24 _]) rfl ?_
    refine z_seq (S' := []) rfl ?_
    refine z_aload F dX1_falls_33 rfl ?_
    refine z_callV F (c_row n (nI d) f h.sy (by omega)) 0 rfl (lw_V q779 q780 q781 q116 q782) (by decide +kernel) ⟨Nat.le_of_ble_eq_true rfl, Nat.le_of_ble_eq_true rfl⟩ ⟨by omega, by omega⟩ [0, 22, 23] 24 ⟨rfl, rfl, rfl, ⟨Or.inl rfl, Or.inr rfl, Or.inr rfl, trivial⟩⟩ (fun h => nomatch h) (Nat.le_of_ble_eq_true rfl) ⟨⟨Or.inr (by first | exact ⟨rfl, pR_B _ (by decide)⟩ | exact ⟨rfl, uR_B (by decide) (by decide)⟩), Or.inr rfl, Or.inr trivial, Or.inr rfl, Or.inr trivial, Or.inr trivial, Or.inr trivial, Or.inr trivial, Or.inr trivial, Or.inr rfl, Or.inr trivial, Or.inr trivial, Or.inr trivial, Or.inr trivial, Or.inr trivial, Or.inr trivial, Or.inr trivial, Or.inr trivial, Or.inr trivial, Or.inr trivial, Or.inr trivial, Or.inr trivial, Or.inl rfl, Or.inl rfl, trivial⟩, rfl, rfl, rfl, Nat.le_of_ble_eq_true rfl⟩ rfl zC5 rfl rfl dX1_falls_35 (fun r_35 w_35 hp => ?_) (fun _ _ h => h.elim)
    obtain ⟨rfl, rfl⟩ := hp
    refine z_weq (w' := [zPl _ _, zO _ [zr _ _, zr _ _, zr _ _, zr _ _, zr _ _, zi _, zi _, zr _ _, zr _ _], zH, zO _ [zr _ _, zi _, zi _, zi _], zAi 0 24 _, zH, zH, zH, zH, zO _ [zi _, zq _, zi _], zH, zH, zH, zH, zH, zH, zH, zH, zH, zH, zH, zH, zO _ [zi _, zi _, zr _ _], zAi 0 24 _, zAi 0 (prs n f).length _]) rfl ?_
    refine z_seq (S' := zr _ _ :: _) rfl ?_
    refine z_astore F dX1_falls_38 (Nat.le_of_ble_eq_true rfl) ?_
    refine z_leq (L' := [_, _, _, _, _, _, _, _, _, _, _, _, _]) rfl ?_
    refine z_iload_n F dX1_falls_40 rfl ?_
    refine z_if_neN F (by omega) (tgt := 50) dX1_falls_41 (by decide) (fun c_41 => ?_) (fun c_41 => ?_)
    · refine z_aload F dX1_falls_50 rfl ?_
      refine z_getN F zC5 (f := 0) rfl (Nat.le_of_ble_eq_true rfl) q245 rfl dX1_falls_52 ?_
      refine z_loc _ ?_ (at55 _ (by rw [flN, if_neg (by omega)]))
      exact ⟨rfl, rfl, rfl, rfl, rfl, trivial⟩
    · refine z_aload F dX1_falls_44 rfl ?_
      refine z_alenN F (fun _ => rfl) rfl dX1_falls_46 ?_
      refine z_goto F (tgt := 55) dX1_falls_47 (by decide) ?_
      refine z_loc _ ?_ (at55 _ (by rw [flN, if_pos (by omega)]))
      exact ⟨rfl, rfl, rfl, rfl, rfl, trivial⟩
  · refine z_iload_n F dX1_falls_11 rfl ?_
    refine z_iconst F (nI 1) dX1_falls_12 rfl ?_
    refine z_icmp_neN F (by omega) (by omega) (tgt := 20) dX1_falls_13 (by decide) (fun c_13 => ?_) (fun c_13 => ?_)
    · exact absurd c_13 (by omega)
    · refine z_iconstB F true dX1_falls_16 rfl ?_
      refine z_goto F (tgt := 21) dX1_falls_17 (by decide) ?_
      refine z_callS F (c_fnd true) 1 rfl (lw_S q433 q434 q109 q435) (by decide +kernel) ⟨Nat.le_of_ble_eq_true rfl, Nat.le_of_ble_eq_true rfl⟩ ⟨by omega, by omega⟩ [0] 24 ⟨rfl, rfl, rfl, ⟨Or.inl rfl, trivial⟩⟩ (fun h => nomatch h) (Nat.le_of_ble_eq_true rfl) ⟨⟨Or.inr (by first | exact ⟨rfl, pR_B _ (by decide)⟩ | exact ⟨rfl, uR_B (by decide) (by decide)⟩), Or.inr rfl, Or.inr trivial, Or.inr rfl, Or.inr trivial, Or.inr trivial, Or.inr trivial, Or.inr trivial, Or.inr trivial, Or.inr rfl, Or.inr trivial, Or.inr trivial, Or.inr trivial, Or.inr trivial, Or.inr trivial, Or.inr trivial, Or.inr trivial, Or.inr trivial, Or.inr trivial, Or.inr trivial, Or.inr trivial, Or.inr trivial, Or.inr rfl, Or.inr trivial, trivial⟩, rfl, rfl, rfl, Nat.le_of_ble_eq_true rfl⟩ rfl rfl dX1_falls_21 (fun r_21 w_21 hp => ?_) (fun E_ w_ hx => by obtain ⟨-, hb, -⟩ := hx; cases hb)
      obtain ⟨rfl, -, rfl⟩ := hp
      refine z_weq (w' := [zPl _ _, zO _ [zr _ _, zr _ _, zr _ _, zr _ _, zr _ _, zi _, zi _, zr _ _, zr _ _], zH, zO _ [zr _ _, zi _, zi _, zi _], zAi 0 24 _, zH, zH, zH, zH, zO _ [zi _, zq _, zi _], zH, zH, zH, zH, zH, zH, zH, zH, zH, zH, zH, zH, zO _ [zi _, zi _, zr _ _], zAi 0 24 _]) rfl ?_
      refine z_seq (S' := []) rfl ?_
      refine z_iload_n F dX1_falls_24 rfl ?_
      refine z_iconst F (nI 0) dX1_falls_25 rfl ?_
      refine z_iconst F (nI 2) dX1_falls_26 rfl ?_
      refine z_callS F (c_in (nI many) (nI 0) (nI 2)) 3 rfl (lw_S q349 q350 q109 q351) (by decide +kernel) ⟨Nat.le_of_ble_eq_true rfl, Nat.le_of_ble_eq_true rfl⟩ ⟨by omega, by omega⟩ [0] 24 ⟨rfl, rfl, rfl, ⟨Or.inl rfl, trivial⟩⟩ (fun h => nomatch h) (Nat.le_of_ble_eq_true rfl) ⟨⟨Or.inr (by first | exact ⟨rfl, pR_B _ (by decide)⟩ | exact ⟨rfl, uR_B (by decide) (by decide)⟩), Or.inr rfl, Or.inr trivial, Or.inr rfl, Or.inr trivial, Or.inr trivial, Or.inr trivial, Or.inr trivial, Or.inr trivial, Or.inr rfl, Or.inr trivial, Or.inr trivial, Or.inr trivial, Or.inr trivial, Or.inr trivial, Or.inr trivial, Or.inr trivial, Or.inr trivial, Or.inr trivial, Or.inr trivial, Or.inr trivial, Or.inr trivial, Or.inr rfl, Or.inr trivial, trivial⟩, rfl, rfl, rfl, Nat.le_of_ble_eq_true rfl⟩ rfl rfl dX1_falls_27 (fun r_27 w_27 hp => ?_) (fun _ _ h => h.elim)
      obtain ⟨rfl, rfl⟩ := hp
      refine z_weq (w' := [zPl _ _, zO _ [zr _ _, zr _ _, zr _ _, zr _ _, zr _ _, zi _, zi _, zr _ _, zr _ _], zH, zO _ [zr _ _, zi _, zi _, zi _], zAi 0 24 _, zH, zH, zH, zH, zO _ [zi _, zq _, zi _], zH, zH, zH, zH, zH, zH, zH, zH, zH, zH, zH, zH, zO _ [zi _, zi _, zr _ _], zAi 0 24 _]) rfl ?_
      refine z_seq (S' := zi _ :: _) rfl ?_
      rw [show inB (nI many) (nI 0) (nI 2) = true from inB_n (by omega) (by omega) (by omega)]
      refine z_callS F (c_rgt true) 1 rfl (lw_S q538 q539 q109 q540) (by decide +kernel) ⟨Nat.le_of_ble_eq_true rfl, Nat.le_of_ble_eq_true rfl⟩ ⟨by omega, by omega⟩ [0] 24 ⟨rfl, rfl, rfl, ⟨Or.inl rfl, trivial⟩⟩ (fun h => nomatch h) (Nat.le_of_ble_eq_true rfl) ⟨⟨Or.inr (by first | exact ⟨rfl, pR_B _ (by decide)⟩ | exact ⟨rfl, uR_B (by decide) (by decide)⟩), Or.inr rfl, Or.inr trivial, Or.inr rfl, Or.inr trivial, Or.inr trivial, Or.inr trivial, Or.inr trivial, Or.inr trivial, Or.inr rfl, Or.inr trivial, Or.inr trivial, Or.inr trivial, Or.inr trivial, Or.inr trivial, Or.inr trivial, Or.inr trivial, Or.inr trivial, Or.inr trivial, Or.inr trivial, Or.inr trivial, Or.inr trivial, Or.inr rfl, Or.inr trivial, trivial⟩, rfl, rfl, rfl, Nat.le_of_ble_eq_true rfl⟩ rfl rfl dX1_falls_30 (fun r_30 w_30 hp => ?_) (fun E_ w_ hx => by obtain ⟨-, hb, -⟩ := hx; cases hb)
      obtain ⟨rfl, -, rfl⟩ := hp
      refine z_weq (w' := [zPl _ _, zO _ [zr _ _, zr _ _, zr _ _, zr _ _, zr _ _, zi _, zi _, zr _ _, zr _ _], zH, zO _ [zr _ _, zi _, zi _, zi _], zAi 0 24 _, zH, zH, zH, zH, zO _ [zi _, zq _, zi _], zH, zH, zH, zH, zH, zH, zH, zH, zH, zH, zH, zH, zO _ [zi _, zi _, zr _ _], zAi 0 24 _]) rfl ?_
      refine z_seq (S' := []) rfl ?_
      refine z_aload F dX1_falls_33 rfl ?_
      refine z_callV F (c_row n (nI d) f h.sy (by omega)) 0 rfl (lw_V q779 q780 q781 q116 q782) (by decide +kernel) ⟨Nat.le_of_ble_eq_true rfl, Nat.le_of_ble_eq_true rfl⟩ ⟨by omega, by omega⟩ [0, 22, 23] 24 ⟨rfl, rfl, rfl, ⟨Or.inl rfl, Or.inr rfl, Or.inr rfl, trivial⟩⟩ (fun h => nomatch h) (Nat.le_of_ble_eq_true rfl) ⟨⟨Or.inr (by first | exact ⟨rfl, pR_B _ (by decide)⟩ | exact ⟨rfl, uR_B (by decide) (by decide)⟩), Or.inr rfl, Or.inr trivial, Or.inr rfl, Or.inr trivial, Or.inr trivial, Or.inr trivial, Or.inr trivial, Or.inr trivial, Or.inr rfl, Or.inr trivial, Or.inr trivial, Or.inr trivial, Or.inr trivial, Or.inr trivial, Or.inr trivial, Or.inr trivial, Or.inr trivial, Or.inr trivial, Or.inr trivial, Or.inr trivial, Or.inr trivial, Or.inl rfl, Or.inl rfl, trivial⟩, rfl, rfl, rfl, Nat.le_of_ble_eq_true rfl⟩ rfl zC5 rfl rfl dX1_falls_35 (fun r_35 w_35 hp => ?_) (fun _ _ h => h.elim)
      obtain ⟨rfl, rfl⟩ := hp
      refine z_weq (w' := [zPl _ _, zO _ [zr _ _, zr _ _, zr _ _, zr _ _, zr _ _, zi _, zi _, zr _ _, zr _ _], zH, zO _ [zr _ _, zi _, zi _, zi _], zAi 0 24 _, zH, zH, zH, zH, zO _ [zi _, zq _, zi _], zH, zH, zH, zH, zH, zH, zH, zH, zH, zH, zH, zH, zO _ [zi _, zi _, zr _ _], zAi 0 24 _, zAi 0 (prs n f).length _]) rfl ?_
      refine z_seq (S' := zr _ _ :: _) rfl ?_
      refine z_astore F dX1_falls_38 (Nat.le_of_ble_eq_true rfl) ?_
      refine z_leq (L' := [_, _, _, _, _, _, _, _, _, _, _, _, _]) rfl ?_
      refine z_iload_n F dX1_falls_40 rfl ?_
      refine z_if_neN F (by omega) (tgt := 50) dX1_falls_41 (by decide) (fun c_41 => ?_) (fun c_41 => ?_)
      · refine z_aload F dX1_falls_50 rfl ?_
        refine z_getN F zC5 (f := 0) rfl (Nat.le_of_ble_eq_true rfl) q245 rfl dX1_falls_52 ?_
        refine z_loc _ ?_ (at55 _ (by rw [flN, if_neg (by omega)]))
        exact ⟨rfl, rfl, rfl, rfl, rfl, trivial⟩
      · refine z_aload F dX1_falls_44 rfl ?_
        refine z_alenN F (fun _ => rfl) rfl dX1_falls_46 ?_
        refine z_goto F (tgt := 55) dX1_falls_47 (by decide) ?_
        refine z_loc _ ?_ (at55 _ (by rw [flN, if_pos (by omega)]))
        exact ⟨rfl, rfl, rfl, rfl, rfl, trivial⟩
theorem c_pfalls_B (Dg : va_G) (P : zPt) (t : Nat) (fp sn0 g0 sm0 : Int32) (Df0 : Nat → Int32) (m0 : Int32) (c0 : Nat) (ga : Nat → Value) (hc0 : c0 ≤ 10) (j n d kind many : Nat) (f : Nat → Int32) (hj : j < 8) (h : nok n d f) (hP : P j = some (nI n, nI d, f)) (hk : kind < 2) (hm : many < 3) : zCtrD Dg yX1_falls cX1_falls 13 (some .int) 8 8 160 [zr 1 0, zi (nI j), zi (nI kind), zi (nI many)] (xFa P t fp sn0 g0 sm0 Df0 (eLs m0 c0 (zr 10 0)) (zAv 10 ga)) (fun r w => ∃ sn g sm Df1, (few many kind n f ∧ r = some (zi (-1)) ∧ w = xFa P t fp sn g sm Df1 (eLs m0 c0 (zr 10 0)) (zAv 10 ga)) ∨ (¬ few many kind n f ∧ ∃ b, flO many kind n f = some b ∧ r = some (zi (nI b.1)) ∧ (∃ m1 g1, w = xFa P t fp sn g sm Df1 (eLs m1 many (zr 10 0)) (zAv 10 g1) ∧ (1 ≤ many → g1 0 = .ref (Dg.2 1000 (b.2.1 + 128))) ∧ (many = 2 → g1 1 = .ref (Dg.2 1000 (b.2.2 + 128)))))) zNx := by
  refine z_startD (by decide) [some (zr 1 0), some (zi (nI j)), some (zi (nI kind)), some (zi (nI many)), none, none, none, none, none, none, none, none, none] rfl (fun _ => Nat.le_of_ble_eq_true rfl) (fun _ => rfl) (fun X hD F E hno hin => ?_)
  subst hD
  have h1 := h.n1
  have h24 := h.n24
  have h96 := prs_96 h
  have hNN : flN kind n f ≤ 96 := by
    unfold flN
    split
    · exact h96
    · omega
  have e0 : many = 0 → ¬ few many kind n f → ∀ (v : Nat) (sn g sm : Int32) (Df : Nat → Int32), flO many kind n f = some (v, 0, 0) → Z X [some (zr 1 0), none, none, none, none, none, none, some (zi (nI v)), some (zi (-1)), some (zi (-1)), none, none, none] [] (xFf P t fp sn g sm Df (eLs m0 c0 (zr 10 0)) (zAv 10 ga) j n d f) 4 118 191 := by
    intro em hnf v sn g sm Df ho
    refine z_aload_n F dX1_falls_191 rfl ?_
    refine z_get F zC1 (f := 4) rfl (Nat.le_of_ble_eq_true rfl) q318 rfl dX1_falls_192 ?_
    refine z_callF F (c_Jclear1 _ m0 c0 ga hc0) 0 rfl (lw_F q1079 q1085 q1083 q114 q1087) (zF0 F) (by decide +kernel) ⟨Nat.le_of_ble_eq_true rfl, Nat.le_of_ble_eq_true rfl⟩ ⟨by omega, by omega⟩ [0, 9, 10] 25 ⟨rfl, rfl, rfl, ⟨Or.inl rfl, Or.inr rfl, Or.inr rfl, trivial⟩⟩ (fun h => nomatch h) (Nat.le_of_ble_eq_true rfl) ⟨⟨Or.inr (by first | exact ⟨rfl, pR_B _ (by decide)⟩ | exact ⟨rfl, uR_B (by decide) (by decide)⟩), Or.inr rfl, Or.inr trivial, Or.inr rfl, Or.inr trivial, Or.inr trivial, Or.inr trivial, Or.inr trivial, Or.inr trivial, Or.inl rfl, Or.inl rfl, Or.inr trivial, Or.inr trivial, Or.inr trivial, Or.inr trivial, Or.inr trivial, Or.inr trivial, Or.inr trivial, Or.inr trivial, Or.inr trivial, Or.inr trivial, Or.inr trivial, Or.inr rfl, Or.inr trivial, Or.inr trivial, trivial⟩, rfl, rfl, rfl, Nat.le_of_ble_eq_true rfl⟩ rfl rfl rfl dX1_falls_195 (fun r_195 w_195 hp => ?_) (fun _ _ h => h.elim)
    obtain ⟨rfl, gb, rfl⟩ := hp
    refine z_weq (w' := [zPl _ _, zO _ [zr _ _, zr _ _, zr _ _, zr _ _, zr _ _, zi _, zi _, zr _ _, zr _ _], zH, zO _ [zr _ _, zi _, zi _, zi _], zAi 0 24 _, zH, zH, zH, zH, zO _ [zi _, zr _ _, zi _], zAr _ 10 _, zH, zH, zH, zH, zH, zH, zH, zH, zH, zH, zH, zO _ [zi _, zi _, zr _ _], zAi 0 24 _, zAi 0 (prs n f).length _]) rfl ?_
    refine z_seq (S' := []) rfl ?_
    refine z_iload F dX1_falls_200 rfl ?_
    refine z_iconst F (-1) dX1_falls_202 rfl ?_
    refine z_icmp_eq F (tgt := 221) dX1_falls_203 (by decide) (fun c_203 => ?_) (fun c_203 => ?_)
    · refine z_iload F dX1_falls_221 rfl ?_
      refine z_iconst F (-1) dX1_falls_223 rfl ?_
      refine z_icmp_eq F (tgt := 242) dX1_falls_224 (by decide) (fun c_224 => ?_) (fun c_224 => ?_)
      · refine z_unfocus F rfl j 22 23 22 hj zput_self rfl rfl (Nat.le_of_ble_eq_true rfl) (Nat.le_of_ble_eq_true rfl) (Nat.le_of_ble_eq_true rfl) (Nat.le_of_ble_eq_true rfl) [zO _ [zr _ _, zr _ _, zr _ _, zr _ _, zr _ _, zi _, zi _, zr _ _, zr _ _], zH, zO _ [zr _ _, zi _, zi _, zi _], zAi 0 24 _, zH, zH, zH, zH, zO _ [zi _, zr _ _, zi _], zAr _ 10 _, zH, zH, zH, zH, zH, zH, zH, zH, zH, zH, zH] rfl ⟨rfl, trivial, rfl, trivial, trivial, trivial, trivial, trivial, rfl, (fun _ => rfl), trivial, trivial, trivial, trivial, trivial, trivial, trivial, trivial, trivial, trivial, trivial, trivial⟩ uOK rfl rfl ?_
        refine z_weq (w' := zPl (pR (zput P j (some _))) (zput P j (some _)) :: _) (congrArg (fun z => z :: _) uPl2) ?_
        refine z_iload F dX1_falls_242 rfl ?_
        exact z_iret F E rfl dX1_falls_244 (by omega) (by omega) (⟨sn, g, sm, Df, Or.inr ⟨hnf, _, ho, rfl, _, _, by rw [zput_some hP, em] <;> rfl, fun z => by omega, fun z => by omega⟩⟩)
      · exact absurd rfl c_224
    · exact absurd rfl c_203
  have e1 : many = 1 → ¬ few many kind n f → ∀ (v x y : Nat) (sn g sm : Int32) (Df : Nat → Int32), flO many kind n f = some (v, x, y) → x < 97 → Z X [some (zr 1 0), none, none, none, none, none, none, some (zi (nI v)), some (zi (nI x)), some (zi (-1)), none, none, none] [] (xFf P t fp sn g sm Df (eLs m0 c0 (zr 10 0)) (zAv 10 ga) j n d f) 4 118 191 := by
    intro em hnf v x y sn g sm Df ho hx
    refine z_aload_n F dX1_falls_191 rfl ?_
    refine z_get F zC1 (f := 4) rfl (Nat.le_of_ble_eq_true rfl) q318 rfl dX1_falls_192 ?_
    refine z_callF F (c_Jclear1 _ m0 c0 ga hc0) 0 rfl (lw_F q1079 q1085 q1083 q114 q1087) (zF0 F) (by decide +kernel) ⟨Nat.le_of_ble_eq_true rfl, Nat.le_of_ble_eq_true rfl⟩ ⟨by omega, by omega⟩ [0, 9, 10] 25 ⟨rfl, rfl, rfl, ⟨Or.inl rfl, Or.inr rfl, Or.inr rfl, trivial⟩⟩ (fun h => nomatch h) (Nat.le_of_ble_eq_true rfl) ⟨⟨Or.inr (by first | exact ⟨rfl, pR_B _ (by decide)⟩ | exact ⟨rfl, uR_B (by decide) (by decide)⟩), Or.inr rfl, Or.inr trivial, Or.inr rfl, Or.inr trivial, Or.inr trivial, Or.inr trivial, Or.inr trivial, Or.inr trivial, Or.inl rfl, Or.inl rfl, Or.inr trivial, Or.inr trivial, Or.inr trivial, Or.inr trivial, Or.inr trivial, Or.inr trivial, Or.inr trivial, Or.inr trivial, Or.inr trivial, Or.inr trivial, Or.inr trivial, Or.inr rfl, Or.inr trivial, Or.inr trivial, trivial⟩, rfl, rfl, rfl, Nat.le_of_ble_eq_true rfl⟩ rfl rfl rfl dX1_falls_195 (fun r_195 w_195 hp => ?_) (fun _ _ h => h.elim)
    obtain ⟨rfl, gb, rfl⟩ := hp
    refine z_weq (w' := [zPl _ _, zO _ [zr _ _, zr _ _, zr _ _, zr _ _, zr _ _, zi _, zi _, zr _ _, zr _ _], zH, zO _ [zr _ _, zi _, zi _, zi _], zAi 0 24 _, zH, zH, zH, zH, zO _ [zi _, zr _ _, zi _], zAr _ 10 _, zH, zH, zH, zH, zH, zH, zH, zH, zH, zH, zH, zO _ [zi _, zi _, zr _ _], zAi 0 24 _, zAi 0 (prs n f).length _]) rfl ?_
    refine z_seq (S' := []) rfl ?_
    refine z_iload F dX1_falls_200 rfl ?_
    refine z_iconst F (-1) dX1_falls_202 rfl ?_
    refine z_icmp_eq F (tgt := 221) dX1_falls_203 (by decide) (fun c_203 => ?_) (fun c_203 => ?_)
    · exact absurd c_203 (nI_ne (by omega))
    · refine z_aload_n F dX1_falls_206 rfl ?_
      refine z_get F zC1 (f := 4) rfl (Nat.le_of_ble_eq_true rfl) q318 rfl dX1_falls_207 ?_
      refine z_iload F dX1_falls_210 rfl ?_
      refine z_callSD F (c_JvalueOf _ x (by omega)) 1 rfl (lw_S q1088 q1089 q123 q1090) (by decide +kernel) ⟨Nat.le_of_ble_eq_true rfl, Nat.le_of_ble_eq_true rfl⟩ ⟨by omega, by omega⟩ [0] 25 ⟨rfl, rfl, rfl, ⟨Or.inl rfl, trivial⟩⟩ (fun h => nomatch h) (Nat.le_of_ble_eq_true rfl) ⟨⟨Or.inr (by first | exact ⟨rfl, pR_B _ (by decide)⟩ | exact ⟨rfl, uR_B (by decide) (by decide)⟩), Or.inr rfl, Or.inr trivial, Or.inr rfl, Or.inr trivial, Or.inr trivial, Or.inr trivial, Or.inr trivial, Or.inr trivial, Or.inr rfl, Or.inr (fun _ => rfl), Or.inr trivial, Or.inr trivial, Or.inr trivial, Or.inr trivial, Or.inr trivial, Or.inr trivial, Or.inr trivial, Or.inr trivial, Or.inr trivial, Or.inr trivial, Or.inr trivial, Or.inr rfl, Or.inr trivial, Or.inr trivial, trivial⟩, rfl, rfl, rfl, Nat.le_of_ble_eq_true rfl⟩ rfl rfl dX1_falls_212 (fun r_212 w_212 hp => ?_) (fun _ _ h => h.elim)
      obtain ⟨rfl, rfl⟩ := hp
      refine z_weq (w' := [zPl _ _, zO _ [zr _ _, zr _ _, zr _ _, zr _ _, zr _ _, zi _, zi _, zr _ _, zr _ _], zH, zO _ [zr _ _, zi _, zi _, zi _], zAi 0 24 _, zH, zH, zH, zH, zO _ [zi _, zr _ _, zi _], zAr _ 10 _, zH, zH, zH, zH, zH, zH, zH, zH, zH, zH, zH, zO _ [zi _, zi _, zr _ _], zAi 0 24 _, zAi 0 (prs n f).length _]) rfl ?_
      refine z_seq (S' := zq _ :: _) rfl ?_
      refine z_callF F (c_JaddB _ _ 0 (x + 128) gb (by omega) (by omega)) 1 rfl (lw_F q1109 q1114 q1112 q114 q1116) (zF1 F) (by decide +kernel) ⟨Nat.le_of_ble_eq_true rfl, Nat.le_of_ble_eq_true rfl⟩ ⟨by omega, by omega⟩ [0, 9, 10] 25 ⟨rfl, rfl, rfl, ⟨Or.inl rfl, Or.inr rfl, Or.inr rfl, trivial⟩⟩ (fun h => nomatch h) (Nat.le_of_ble_eq_true rfl) ⟨⟨Or.inr (by first | exact ⟨rfl, pR_B _ (by decide)⟩ | exact ⟨rfl, uR_B (by decide) (by decide)⟩), Or.inr rfl, Or.inr trivial, Or.inr rfl, Or.inr trivial, Or.inr trivial, Or.inr trivial, Or.inr trivial, Or.inr trivial, Or.inl rfl, Or.inl rfl, Or.inr trivial, Or.inr trivial, Or.inr trivial, Or.inr trivial, Or.inr trivial, Or.inr trivial, Or.inr trivial, Or.inr trivial, Or.inr trivial, Or.inr trivial, Or.inr trivial, Or.inr rfl, Or.inr trivial, Or.inr trivial, trivial⟩, rfl, rfl, rfl, Nat.le_of_ble_eq_true rfl⟩ rfl rfl rfl dX1_falls_215 (fun r_215 w_215 hp => ?_) (fun _ _ h => h.elim)
      obtain ⟨rfl, rfl⟩ := hp
      refine z_weq (w' := [zPl _ _, zO _ [zr _ _, zr _ _, zr _ _, zr _ _, zr _ _, zi _, zi _, zr _ _, zr _ _], zH, zO _ [zr _ _, zi _, zi _, zi _], zAi 0 24 _, zH, zH, zH, zH, zO _ [zi _, zr _ _, zi _], zAr _ 10 _, zH, zH, zH, zH, zH, zH, zH, zH, zH, zH, zH, zO _ [zi _, zi _, zr _ _], zAi 0 24 _, zAi 0 (prs n f).length _]) rfl ?_
      refine z_seq (S' := zi _ :: _) rfl ?_
      refine z_pop F dX1_falls_220 rfl ?_
      refine z_iload F dX1_falls_221 rfl ?_
      refine z_iconst F (-1) dX1_falls_223 rfl ?_
      refine z_icmp_eq F (tgt := 242) dX1_falls_224 (by decide) (fun c_224 => ?_) (fun c_224 => ?_)
      · refine z_unfocus F rfl j 22 23 22 hj zput_self rfl rfl (Nat.le_of_ble_eq_true rfl) (Nat.le_of_ble_eq_true rfl) (Nat.le_of_ble_eq_true rfl) (Nat.le_of_ble_eq_true rfl) [zO _ [zr _ _, zr _ _, zr _ _, zr _ _, zr _ _, zi _, zi _, zr _ _, zr _ _], zH, zO _ [zr _ _, zi _, zi _, zi _], zAi 0 24 _, zH, zH, zH, zH, zO _ [zi _, zr _ _, zi _], zAr _ 10 _, zH, zH, zH, zH, zH, zH, zH, zH, zH, zH, zH] rfl ⟨rfl, trivial, rfl, trivial, trivial, trivial, trivial, trivial, rfl, (fun _ => rfl), trivial, trivial, trivial, trivial, trivial, trivial, trivial, trivial, trivial, trivial, trivial, trivial⟩ uOK rfl rfl ?_
        refine z_weq (w' := zPl (pR (zput P j (some _))) (zput P j (some _)) :: _) (congrArg (fun z => z :: _) uPl2) ?_
        refine z_iload F dX1_falls_242 rfl ?_
        exact z_iret F E rfl dX1_falls_244 (by omega) (by omega) (⟨sn, g, sm, Df, Or.inr ⟨hnf, _, ho, rfl, _, _, by rw [zput_some hP, em] <;> rfl, fun _ => rfl, fun z => by omega⟩⟩)
      · exact absurd rfl c_224
  have e2 : many = 2 → ¬ few many kind n f → ∀ (v x y : Nat) (sn g sm : Int32) (Df : Nat → Int32), flO many kind n f = some (v, x, y) → x < 97 → y < 97 → Z X [some (zr 1 0), none, none, none, none, none, none, some (zi (nI v)), some (zi (nI x)), some (zi (nI y)), none, none, none] [] (xFf P t fp sn g sm Df (eLs m0 c0 (zr 10 0)) (zAv 10 ga) j n d f) 4 118 191 := by
    intro em hnf v x y sn g sm Df ho hx hy
    refine z_aload_n F dX1_falls_191 rfl ?_
    refine z_get F zC1 (f := 4) rfl (Nat.le_of_ble_eq_true rfl) q318 rfl dX1_falls_192 ?_
    refine z_callF F (c_Jclear1 _ m0 c0 ga hc0) 0 rfl (lw_F q1079 q1085 q1083 q114 q1087) (zF0 F) (by decide +kernel) ⟨Nat.le_of_ble_eq_true rfl, Nat.le_of_ble_eq_true rfl⟩ ⟨by omega, by omega⟩ [0, 9, 10] 25 ⟨rfl, rfl, rfl, ⟨Or.inl rfl, Or.inr rfl, Or.inr rfl, trivial⟩⟩ (fun h => nomatch h) (Nat.le_of_ble_eq_true rfl) ⟨⟨Or.inr (by first | exact ⟨rfl, pR_B _ (by decide)⟩ | exact ⟨rfl, uR_B (by decide) (by decide)⟩), Or.inr rfl, Or.inr trivial, Or.inr rfl, Or.inr trivial, Or.inr trivial, Or.inr trivial, Or.inr trivial, Or.inr trivial, Or.inl rfl, Or.inl rfl, Or.inr trivial, Or.inr trivial, Or.inr trivial, Or.inr trivial, Or.inr trivial, Or.inr trivial, Or.inr trivial, Or.inr trivial, Or.inr trivial, Or.inr trivial, Or.inr trivial, Or.inr rfl, Or.inr trivial, Or.inr trivial, trivial⟩, rfl, rfl, rfl, Nat.le_of_ble_eq_true rfl⟩ rfl rfl rfl dX1_falls_195 (fun r_195 w_195 hp => ?_) (fun _ _ h => h.elim)
    obtain ⟨rfl, gb, rfl⟩ := hp
    refine z_weq (w' := [zPl _ _, zO _ [zr _ _, zr _ _, zr _ _, zr _ _, zr _ _, zi _, zi _, zr _ _, zr _ _], zH, zO _ [zr _ _, zi _, zi _, zi _], zAi 0 24 _, zH, zH, zH, zH, zO _ [zi _, zr _ _, zi _], zAr _ 10 _, zH, zH, zH, zH, zH, zH, zH, zH, zH, zH, zH, zO _ [zi _, zi _, zr _ _], zAi 0 24 _, zAi 0 (prs n f).length _]) rfl ?_
    refine z_seq (S' := []) rfl ?_
    refine z_iload F dX1_falls_200 rfl ?_
    refine z_iconst F (-1) dX1_falls_202 rfl ?_
    refine z_icmp_eq F (tgt := 221) dX1_falls_203 (by decide) (fun c_203 => ?_) (fun c_203 => ?_)
    · exact absurd c_203 (nI_ne (by omega))
    · refine z_aload_n F dX1_falls_206 rfl ?_
      refine z_get F zC1 (f := 4) rfl (Nat.le_of_ble_eq_true rfl) q318 rfl dX1_falls_207 ?_
      refine z_iload F dX1_falls_210 rfl ?_
      refine z_callSD F (c_JvalueOf _ x (by omega)) 1 rfl (lw_S q1088 q1089 q123 q1090) (by decide +kernel) ⟨Nat.le_of_ble_eq_true rfl, Nat.le_of_ble_eq_true rfl⟩ ⟨by omega, by omega⟩ [0] 25 ⟨rfl, rfl, rfl, ⟨Or.inl rfl, trivial⟩⟩ (fun h => nomatch h) (Nat.le_of_ble_eq_true rfl) ⟨⟨Or.inr (by first | exact ⟨rfl, pR_B _ (by decide)⟩ | exact ⟨rfl, uR_B (by decide) (by decide)⟩), Or.inr rfl, Or.inr trivial, Or.inr rfl, Or.inr trivial, Or.inr trivial, Or.inr trivial, Or.inr trivial, Or.inr trivial, Or.inr rfl, Or.inr (fun _ => rfl), Or.inr trivial, Or.inr trivial, Or.inr trivial, Or.inr trivial, Or.inr trivial, Or.inr trivial, Or.inr trivial, Or.inr trivial, Or.inr trivial, Or.inr trivial, Or.inr trivial, Or.inr rfl, Or.inr trivial, Or.inr trivial, trivial⟩, rfl, rfl, rfl, Nat.le_of_ble_eq_true rfl⟩ rfl rfl dX1_falls_212 (fun r_212 w_212 hp => ?_) (fun _ _ h => h.elim)
      obtain ⟨rfl, rfl⟩ := hp
      refine z_weq (w' := [zPl _ _, zO _ [zr _ _, zr _ _, zr _ _, zr _ _, zr _ _, zi _, zi _, zr _ _, zr _ _], zH, zO _ [zr _ _, zi _, zi _, zi _], zAi 0 24 _, zH, zH, zH, zH, zO _ [zi _, zr _ _, zi _], zAr _ 10 _, zH, zH, zH, zH, zH, zH, zH, zH, zH, zH, zH, zO _ [zi _, zi _, zr _ _], zAi 0 24 _, zAi 0 (prs n f).length _]) rfl ?_
      refine z_seq (S' := zq _ :: _) rfl ?_
      refine z_callF F (c_JaddB _ _ 0 (x + 128) gb (by omega) (by omega)) 1 rfl (lw_F q1109 q1114 q1112 q114 q1116) (zF1 F) (by decide +kernel) ⟨Nat.le_of_ble_eq_true rfl, Nat.le_of_ble_eq_true rfl⟩ ⟨by omega, by omega⟩ [0, 9, 10] 25 ⟨rfl, rfl, rfl, ⟨Or.inl rfl, Or.inr rfl, Or.inr rfl, trivial⟩⟩ (fun h => nomatch h) (Nat.le_of_ble_eq_true rfl) ⟨⟨Or.inr (by first | exact ⟨rfl, pR_B _ (by decide)⟩ | exact ⟨rfl, uR_B (by decide) (by decide)⟩), Or.inr rfl, Or.inr trivial, Or.inr rfl, Or.inr trivial, Or.inr trivial, Or.inr trivial, Or.inr trivial, Or.inr trivial, Or.inl rfl, Or.inl rfl, Or.inr trivial, Or.inr trivial, Or.inr trivial, Or.inr trivial, Or.inr trivial, Or.inr trivial, Or.inr trivial, Or.inr trivial, Or.inr trivial, Or.inr trivial, Or.inr trivial, Or.inr rfl, Or.inr trivial, Or.inr trivial, trivial⟩, rfl, rfl, rfl, Nat.le_of_ble_eq_true rfl⟩ rfl rfl rfl dX1_falls_215 (fun r_215 w_215 hp => ?_) (fun _ _ h => h.elim)
      obtain ⟨rfl, rfl⟩ := hp
      refine z_weq (w' := [zPl _ _, zO _ [zr _ _, zr _ _, zr _ _, zr _ _, zr _ _, zi _, zi _, zr _ _, zr _ _], zH, zO _ [zr _ _, zi _, zi _, zi _], zAi 0 24 _, zH, zH, zH, zH, zO _ [zi _, zr _ _, zi _], zAr _ 10 _, zH, zH, zH, zH, zH, zH, zH, zH, zH, zH, zH, zO _ [zi _, zi _, zr _ _], zAi 0 24 _, zAi 0 (prs n f).length _]) rfl ?_
      refine z_seq (S' := zi _ :: _) rfl ?_
      refine z_pop F dX1_falls_220 rfl ?_
      refine z_iload F dX1_falls_221 rfl ?_
      refine z_iconst F (-1) dX1_falls_223 rfl ?_
      refine z_icmp_eq F (tgt := 242) dX1_falls_224 (by decide) (fun c_224 => ?_) (fun c_224 => ?_)
      · exact absurd c_224 (nI_ne (by omega))
      · refine z_aload_n F dX1_falls_227 rfl ?_
        refine z_get F zC1 (f := 4) rfl (Nat.le_of_ble_eq_true rfl) q318 rfl dX1_falls_228 ?_
        refine z_iload F dX1_falls_231 rfl ?_
        refine z_callSD F (c_JvalueOf _ y (by omega)) 1 rfl (lw_S q1088 q1089 q123 q1090) (by decide +kernel) ⟨Nat.le_of_ble_eq_true rfl, Nat.le_of_ble_eq_true rfl⟩ ⟨by omega, by omega⟩ [0] 25 ⟨rfl, rfl, rfl, ⟨Or.inl rfl, trivial⟩⟩ (fun h => nomatch h) (Nat.le_of_ble_eq_true rfl) ⟨⟨Or.inr (by first | exact ⟨rfl, pR_B _ (by decide)⟩ | exact ⟨rfl, uR_B (by decide) (by decide)⟩), Or.inr rfl, Or.inr trivial, Or.inr rfl, Or.inr trivial, Or.inr trivial, Or.inr trivial, Or.inr trivial, Or.inr trivial, Or.inr rfl, Or.inr (fun _ => rfl), Or.inr trivial, Or.inr trivial, Or.inr trivial, Or.inr trivial, Or.inr trivial, Or.inr trivial, Or.inr trivial, Or.inr trivial, Or.inr trivial, Or.inr trivial, Or.inr trivial, Or.inr rfl, Or.inr trivial, Or.inr trivial, trivial⟩, rfl, rfl, rfl, Nat.le_of_ble_eq_true rfl⟩ rfl rfl dX1_falls_233 (fun r_233 w_233 hp => ?_) (fun _ _ h => h.elim)
        obtain ⟨rfl, rfl⟩ := hp
        refine z_weq (w' := [zPl _ _, zO _ [zr _ _, zr _ _, zr _ _, zr _ _, zr _ _, zi _, zi _, zr _ _, zr _ _], zH, zO _ [zr _ _, zi _, zi _, zi _], zAi 0 24 _, zH, zH, zH, zH, zO _ [zi _, zr _ _, zi _], zAr _ 10 _, zH, zH, zH, zH, zH, zH, zH, zH, zH, zH, zH, zO _ [zi _, zi _, zr _ _], zAi 0 24 _, zAi 0 (prs n f).length _]) rfl ?_
        refine z_seq (S' := zq _ :: _) rfl ?_
        refine z_callF F (c_JaddB _ _ 1 (y + 128) _ (by omega) (by omega)) 1 rfl (lw_F q1109 q1114 q1112 q114 q1116) (zF1 F) (by decide +kernel) ⟨Nat.le_of_ble_eq_true rfl, Nat.le_of_ble_eq_true rfl⟩ ⟨by omega, by omega⟩ [0, 9, 10] 25 ⟨rfl, rfl, rfl, ⟨Or.inl rfl, Or.inr rfl, Or.inr rfl, trivial⟩⟩ (fun h => nomatch h) (Nat.le_of_ble_eq_true rfl) ⟨⟨Or.inr (by first | exact ⟨rfl, pR_B _ (by decide)⟩ | exact ⟨rfl, uR_B (by decide) (by decide)⟩), Or.inr rfl, Or.inr trivial, Or.inr rfl, Or.inr trivial, Or.inr trivial, Or.inr trivial, Or.inr trivial, Or.inr trivial, Or.inl rfl, Or.inl rfl, Or.inr trivial, Or.inr trivial, Or.inr trivial, Or.inr trivial, Or.inr trivial, Or.inr trivial, Or.inr trivial, Or.inr trivial, Or.inr trivial, Or.inr trivial, Or.inr trivial, Or.inr rfl, Or.inr trivial, Or.inr trivial, trivial⟩, rfl, rfl, rfl, Nat.le_of_ble_eq_true rfl⟩ rfl rfl rfl dX1_falls_236 (fun r_236 w_236 hp => ?_) (fun _ _ h => h.elim)
        obtain ⟨rfl, rfl⟩ := hp
        refine z_weq (w' := [zPl _ _, zO _ [zr _ _, zr _ _, zr _ _, zr _ _, zr _ _, zi _, zi _, zr _ _, zr _ _], zH, zO _ [zr _ _, zi _, zi _, zi _], zAi 0 24 _, zH, zH, zH, zH, zO _ [zi _, zr _ _, zi _], zAr _ 10 _, zH, zH, zH, zH, zH, zH, zH, zH, zH, zH, zH, zO _ [zi _, zi _, zr _ _], zAi 0 24 _, zAi 0 (prs n f).length _]) rfl ?_
        refine z_seq (S' := zi _ :: _) rfl ?_
        refine z_pop F dX1_falls_241 rfl ?_
        refine z_unfocus F rfl j 22 23 22 hj zput_self rfl rfl (Nat.le_of_ble_eq_true rfl) (Nat.le_of_ble_eq_true rfl) (Nat.le_of_ble_eq_true rfl) (Nat.le_of_ble_eq_true rfl) [zO _ [zr _ _, zr _ _, zr _ _, zr _ _, zr _ _, zi _, zi _, zr _ _, zr _ _], zH, zO _ [zr _ _, zi _, zi _, zi _], zAi 0 24 _, zH, zH, zH, zH, zO _ [zi _, zr _ _, zi _], zAr _ 10 _, zH, zH, zH, zH, zH, zH, zH, zH, zH, zH, zH] rfl ⟨rfl, trivial, rfl, trivial, trivial, trivial, trivial, trivial, rfl, (fun _ => rfl), trivial, trivial, trivial, trivial, trivial, trivial, trivial, trivial, trivial, trivial, trivial, trivial⟩ uOK rfl rfl ?_
        refine z_weq (w' := zPl (pR (zput P j (some _))) (zput P j (some _)) :: _) (congrArg (fun z => z :: _) uPl2) ?_
        refine z_iload F dX1_falls_242 rfl ?_
        exact z_iret F E rfl dX1_falls_244 (by omega) (by omega) (⟨sn, g, sm, Df, Or.inr ⟨hnf, _, ho, rfl, _, _, by rw [zput_some hP, em] <;> rfl, fun _ => rfl, fun _ => rfl⟩⟩)
  have z0 : many = 0 → ¬ few many kind n f → ∀ (sn g sm : Int32) (Df : Nat → Int32), Z X [some (zr 1 0), none, some (zi (nI kind)), some (zi (nI many)), some (zr 22 0), some (zr 24 0), some (zi (nI (flN kind n f))), some (zi (-1)), some (zi (-1)), some (zi (-1)), some (zi (-1)), none, none] [] (xFf P t fp sn g sm Df (eLs m0 c0 (zr 10 0)) (zAv 10 ga) j n d f) 4 118 96 := by
    intro em hnf sn g sm Df
    have ho : flO many kind n f = some (cfar n f (allB n), 0, 0) := if_pos em
    have hcf := cfar_le n f (allB n)
    have ex : ∀ (sn g sm : Int32) (Df : Nat → Int32), Z X [some (zr 1 0), none, some (zi (nI kind)), some (zi (nI many)), some (zr 22 0), some (zr 24 0), some (zi (nI (flN kind n f))), some (zi (nI (cfar n f (allB n)))), some (zi (-1)), some (zi (-1)), some (zi (-1)), some (zi (nI 0)), none] [] (xFf P t fp sn g sm Df (eLs m0 c0 (zr 10 0)) (zAv 10 ga) j n d f) 4 118 126 := by
      intro sn g sm Df
      refine z_iload F dX1_falls_126 rfl ?_
      refine z_iload_n F dX1_falls_128 rfl ?_
      refine z_iconst F (nI 1) dX1_falls_129 rfl ?_
      refine z_icmp_leN F (by omega) (by omega) (tgt := 138) dX1_falls_130 (by decide) (fun c_130 => ?_) (fun c_130 => ?_)
      · refine z_iconst F (nI 0) dX1_falls_138 rfl ?_
        refine z_icmp_geN F (by omega) (by omega) (tgt := 185) dX1_falls_139 (by decide) (fun c_139 => ?_) (fun c_139 => ?_)
        · refine z_iinc F (nI 0) dX1_falls_185 rfl (rfl) ?_
          refine z_leq (L' := [_, _, _, _, _, _, _, _, _, _, _, _, _]) rfl ?_
          refine z_goto F (tgt := 96) dX1_falls_188 (by decide) ?_
          refine z_iload F dX1_falls_96 rfl ?_
          refine z_iload_n F dX1_falls_98 rfl ?_
          refine z_if_leN F (by omega) (tgt := 107) dX1_falls_99 (by decide) (fun c_99 => ?_) (fun c_99 => ?_)
          · refine z_iconst F (nI 0) dX1_falls_107 rfl ?_
            refine z_icmp_ge F (tgt := 191) dX1_falls_108 (by decide) (fun c_108 => ?_) (fun c_108 => ?_)
            · refine z_loc _ ?_ (e0 em hnf _ sn g sm Df ho)
              exact ⟨rfl, rfl, rfl, rfl, trivial⟩
            · exact absurd (Int32.le_refl _) c_108
          · exact absurd c_99 (by omega)
        · exact absurd c_139 (by omega)
      · exact absurd c_130 (by omega)
    refine z_iload F dX1_falls_96 rfl ?_
    refine z_iload_n F dX1_falls_98 rfl ?_
    refine z_if_leN F (by omega) (tgt := 107) dX1_falls_99 (by decide) (fun c_99 => ?_) (fun c_99 => ?_)
    · refine z_iconst F (nI 0) dX1_falls_107 rfl ?_
      refine z_icmp_ge F (tgt := 191) dX1_falls_108 (by decide) (fun c_108 => ?_) (fun c_108 => ?_)
      · exact absurd c_108 (by decide)
      · refine z_iload_n F dX1_falls_111 rfl ?_
        refine z_iconst F (nI 1) dX1_falls_112 rfl ?_
        refine z_icmp_leN F (by omega) (by omega) (tgt := 123) dX1_falls_113 (by decide) (fun c_113 => ?_) (fun c_113 => ?_)
        · refine z_iconst F (-1) dX1_falls_123 rfl ?_
          refine z_istore F dX1_falls_124 (Nat.le_of_ble_eq_true rfl) ?_
          refine z_leq (L' := [_, _, _, _, _, _, _, _, _, _, _, _, _]) rfl ?_
          refine z_iload F dX1_falls_126 rfl ?_
          refine z_iload_n F dX1_falls_128 rfl ?_
          refine z_iconst F (nI 1) dX1_falls_129 rfl ?_
          refine z_icmp_leN F (by omega) (by omega) (tgt := 138) dX1_falls_130 (by decide) (fun c_130 => ?_) (fun c_130 => ?_)
          · refine z_iconst F (nI 0) dX1_falls_138 rfl ?_
            refine z_icmp_ge F (tgt := 185) dX1_falls_139 (by decide) (fun c_139 => ?_) (fun c_139 => ?_)
            · exact absurd c_139 (by decide)
            · refine z_aload_n F dX1_falls_142 rfl ?_
              refine z_aload F dX1_falls_143 rfl ?_
              refine z_aload F dX1_falls_145 rfl ?_
              refine z_iload_n F dX1_falls_147 rfl ?_
              refine z_iload F dX1_falls_148 rfl ?_
              refine z_iload F dX1_falls_150 rfl ?_
              refine z_callV F (c_xleft00 t fp sn g sm Df n d kind f  h hk) 5 rfl (lw_V q1071 q1073 qs23 q109 q1074) (by decide +kernel) ⟨Nat.le_of_ble_eq_true rfl, Nat.le_of_ble_eq_true rfl⟩ ⟨by omega, by omega⟩ [0, 1, 2, 3, 4, 5, 6, 7, 8, 9, 10, 11, 12, 13, 14, 15, 16, 17, 18, 19, 20, 21, 22, 23, 24] 25 ⟨rfl, rfl, rfl, ⟨Or.inl rfl, Or.inr rfl, Or.inl rfl, Or.inr rfl, Or.inr rfl, Or.inl rfl, Or.inl rfl, Or.inl rfl, Or.inl rfl, Or.inl rfl, Or.inl rfl, Or.inl rfl, Or.inl rfl, Or.inl rfl, Or.inl rfl, Or.inl rfl, Or.inl rfl, Or.inl rfl, Or.inl rfl, Or.inl rfl, Or.inl rfl, Or.inl rfl, Or.inr rfl, Or.inr rfl, Or.inr rfl, trivial⟩⟩ (fun h => nomatch h) (Nat.le_of_ble_eq_true rfl) ⟨⟨Or.inr (by first | exact ⟨rfl, pR_B _ (by decide)⟩ | exact ⟨rfl, uR_B (by decide) (by decide)⟩), Or.inl rfl, Or.inr trivial, Or.inl rfl, Or.inl rfl, Or.inr trivial, Or.inr trivial, Or.inr trivial, Or.inr trivial, Or.inr rfl, Or.inr (fun _ => rfl), Or.inr trivial, Or.inr trivial, Or.inr trivial, Or.inr trivial, Or.inr trivial, Or.inr trivial, Or.inr trivial, Or.inr trivial, Or.inr trivial, Or.inr trivial, Or.inr trivial, Or.inl rfl, Or.inl rfl, Or.inl rfl, trivial⟩, rfl, rfl, rfl, Nat.le_of_ble_eq_true rfl⟩ rfl zC1 rfl rfl dX1_falls_152 (fun r_152 w_152 hp => ?_) (fun _ _ h => h.elim)
              obtain ⟨rfl, sn1, g1, sm1, D1, rfl⟩ := hp
              refine z_weq (w' := [zPl _ _, zO _ [zr _ _, zr _ _, zr _ _, zr _ _, zr _ _, zi _, zi _, zr _ _, zr _ _], zH, zO _ [zr _ _, zi _, zi _, zi _], zAi 0 24 _, zH, zH, zH, zH, zO _ [zi _, zr _ _, zi _], zAr _ 10 _, zH, zH, zH, zH, zH, zH, zH, zH, zH, zH, zH, zO _ [zi _, zi _, zr _ _], zAi 0 24 _, zAi 0 (prs n f).length _]) rfl ?_
              refine z_seq (S' := zi _ :: _) rfl ?_
              refine z_istore F dX1_falls_155 (Nat.le_of_ble_eq_true rfl) ?_
              refine z_leq (L' := [_, _, _, _, _, _, _, _, _, _, _, _, _]) rfl ?_
              refine z_iload F dX1_falls_157 rfl ?_
              refine z_iload F dX1_falls_159 rfl ?_
              refine z_icmp_gt F (tgt := 167) dX1_falls_161 (by decide) (fun c_161 => ?_) (fun c_161 => ?_)
              · refine z_iload F dX1_falls_167 rfl ?_
                refine z_istore F dX1_falls_169 (Nat.le_of_ble_eq_true rfl) ?_
                refine z_leq (L' := [_, _, _, _, _, _, _, _, _, _, _, _, _]) rfl ?_
                refine z_iload F dX1_falls_171 rfl ?_
                refine z_istore F dX1_falls_173 (Nat.le_of_ble_eq_true rfl) ?_
                refine z_leq (L' := [_, _, _, _, _, _, _, _, _, _, _, _, _]) rfl ?_
                refine z_iload F dX1_falls_175 rfl ?_
                refine z_istore F dX1_falls_177 (Nat.le_of_ble_eq_true rfl) ?_
                refine z_leq (L' := [_, _, _, _, _, _, _, _, _, _, _, _, _]) rfl ?_
                refine z_iinc F (nI 0) dX1_falls_179 rfl (rfl) ?_
                refine z_leq (L' := [_, _, _, _, _, _, _, _, _, _, _, _, _]) rfl ?_
                refine z_goto F (tgt := 126) dX1_falls_182 (by decide) ?_
                refine z_loc _ ?_ (ex sn1 g1 sm1 D1)
                exact ⟨rfl, rfl, rfl, rfl, rfl, rfl, rfl, rfl, rfl, rfl, rfl, trivial⟩
              · exact absurd (neg_lt _ (by omega)) c_161
          · exact absurd c_130 (by omega)
        · exact absurd c_113 (by omega)
    · exact absurd c_99 (by omega)
  have z1 : many = 1 → ¬ few many kind n f → ∀ (u i : Nat) (sn g sm : Int32) (Df : Nat → Int32), flN kind n f - i < u → i ≤ flN kind n f → Z X [some (zr 1 0), none, some (zi (nI kind)), some (zi (nI many)), some (zr 22 0), some (zr 24 0), some (zi (nI (flN kind n f))), some (zi (fvI (fa1 (flV n f kind) i))), some (zi (faI (fa1 (flV n f kind) i))), some (zi (-1)), some (zi (nI i)), none, none] [] (xFf P t fp sn g sm Df (eLs m0 c0 (zr 10 0)) (zAv 10 ga) j n d f) 4 118 96 := by
    intro em hnf u
    induction u with
    | zero => intro i sn g sm Df hu; omega
    | succ u ih =>
      intro i sn g sm Df hu hi
      have hO : flO many kind n f = fa1 (flV n f kind) (flN kind n f) := by unfold flO; rw [if_neg (by omega), if_pos em]
      have hB := fa1_B (N := flN kind n f) (flV_le n f kind) i hi
      have hle := flV_le n f kind i i
      have ex : i < flN kind n f → ∀ (sn g sm : Int32) (Df : Nat → Int32), Z X [some (zr 1 0), none, some (zi (nI kind)), some (zi (nI many)), some (zr 22 0), some (zr 24 0), some (zi (nI (flN kind n f))), some (zi (fvI (fa1 (flV n f kind) (i + 1)))), some (zi (faI (fa1 (flV n f kind) (i + 1)))), some (zi (-1)), some (zi (nI i)), some (zi (nI 0)), none] [] (xFf P t fp sn g sm Df (eLs m0 c0 (zr 10 0)) (zAv 10 ga) j n d f) 4 118 126 := by
        intro hil sn g sm Df
        refine z_iload F dX1_falls_126 rfl ?_
        refine z_iload_n F dX1_falls_128 rfl ?_
        refine z_iconst F (nI 1) dX1_falls_129 rfl ?_
        refine z_icmp_leN F (by omega) (by omega) (tgt := 138) dX1_falls_130 (by decide) (fun c_130 => ?_) (fun c_130 => ?_)
        · refine z_iconst F (nI 0) dX1_falls_138 rfl ?_
          refine z_icmp_geN F (by omega) (by omega) (tgt := 185) dX1_falls_139 (by decide) (fun c_139 => ?_) (fun c_139 => ?_)
          · refine z_iincN F 1 dX1_falls_185 rfl rfl ?_
            refine z_leq (L' := [_, _, _, _, _, _, _, _, _, _, _, _, _]) rfl ?_
            refine z_goto F (tgt := 96) dX1_falls_188 (by decide) ?_
            refine z_loc _ ?_ (ih (i + 1) sn g sm Df (by omega) (by omega))
            exact ⟨rfl, rfl, rfl, rfl, rfl, rfl, rfl, rfl, rfl, rfl, trivial⟩
          · exact absurd c_139 (by omega)
        · exact absurd c_130 (by omega)
      refine z_iload F dX1_falls_96 rfl ?_
      refine z_iload_n F dX1_falls_98 rfl ?_
      refine z_if_leN F (by omega) (tgt := 107) dX1_falls_99 (by decide) (fun c_99 => ?_) (fun c_99 => ?_)
      · exact absurd c_99 (by omega)
      · refine z_iload F dX1_falls_102 rfl ?_
        refine z_goto F (tgt := 108) dX1_falls_104 (by decide) ?_
        refine z_icmp_geN F (by omega) (by omega) (tgt := 191) dX1_falls_108 (by decide) (fun c_108 => ?_) (fun c_108 => ?_)
        · have ei : i = flN kind n f := by omega
          subst ei
          obtain ⟨b, hb1, hb2, hb3, -⟩ := flO_s (by omega) hnf
          rw [hO] at hb1
          have hb4 := hb3 (by omega)
          rw [hb1]
          rw [hb1] at hO
          refine z_loc _ ?_ (e1 em hnf b.1 b.2.1 b.2.2 sn g sm Df hO (by omega))
          exact ⟨rfl, rfl, rfl, rfl, trivial⟩
        · refine z_iload_n F dX1_falls_111 rfl ?_
          refine z_iconst F (nI 1) dX1_falls_112 rfl ?_
          refine z_icmp_leN F (by omega) (by omega) (tgt := 123) dX1_falls_113 (by decide) (fun c_113 => ?_) (fun c_113 => ?_)
          · refine z_iconst F (-1) dX1_falls_123 rfl ?_
            refine z_istore F dX1_falls_124 (Nat.le_of_ble_eq_true rfl) ?_
            refine z_leq (L' := [_, _, _, _, _, _, _, _, _, _, _, _, _]) rfl ?_
            refine z_iload F dX1_falls_126 rfl ?_
            refine z_iload_n F dX1_falls_128 rfl ?_
            refine z_iconst F (nI 1) dX1_falls_129 rfl ?_
            refine z_icmp_leN F (by omega) (by omega) (tgt := 138) dX1_falls_130 (by decide) (fun c_130 => ?_) (fun c_130 => ?_)
            · refine z_iconst F (nI 0) dX1_falls_138 rfl ?_
              refine z_icmp_ge F (tgt := 185) dX1_falls_139 (by decide) (fun c_139 => ?_) (fun c_139 => ?_)
              · exact absurd c_139 (by decide)
              · refine z_aload_n F dX1_falls_142 rfl ?_
                refine z_aload F dX1_falls_143 rfl ?_
                refine z_aload F dX1_falls_145 rfl ?_
                refine z_iload_n F dX1_falls_147 rfl ?_
                refine z_iload F dX1_falls_148 rfl ?_
                refine z_iload F dX1_falls_150 rfl ?_
                refine z_callV F (c_xleft10 t fp sn g sm Df n d kind f i (by omega) h hk) 5 rfl (lw_V q1071 q1073 qs23 q109 q1074) (by decide +kernel) ⟨Nat.le_of_ble_eq_true rfl, Nat.le_of_ble_eq_true rfl⟩ ⟨by omega, by omega⟩ [0, 1, 2, 3, 4, 5, 6, 7, 8, 9, 10, 11, 12, 13, 14, 15, 16, 17, 18, 19, 20, 21, 22, 23, 24] 25 ⟨rfl, rfl, rfl, ⟨Or.inl rfl, Or.inr rfl, Or.inl rfl, Or.inr rfl, Or.inr rfl, Or.inl rfl, Or.inl rfl, Or.inl rfl, Or.inl rfl, Or.inl rfl, Or.inl rfl, Or.inl rfl, Or.inl rfl, Or.inl rfl, Or.inl rfl, Or.inl rfl, Or.inl rfl, Or.inl rfl, Or.inl rfl, Or.inl rfl, Or.inl rfl, Or.inl rfl, Or.inr rfl, Or.inr rfl, Or.inr rfl, trivial⟩⟩ (fun h => nomatch h) (Nat.le_of_ble_eq_true rfl) ⟨⟨Or.inr (by first | exact ⟨rfl, pR_B _ (by decide)⟩ | exact ⟨rfl, uR_B (by decide) (by decide)⟩), Or.inl rfl, Or.inr trivial, Or.inl rfl, Or.inl rfl, Or.inr trivial, Or.inr trivial, Or.inr trivial, Or.inr trivial, Or.inr rfl, Or.inr (fun _ => rfl), Or.inr trivial, Or.inr trivial, Or.inr trivial, Or.inr trivial, Or.inr trivial, Or.inr trivial, Or.inr trivial, Or.inr trivial, Or.inr trivial, Or.inr trivial, Or.inr trivial, Or.inl rfl, Or.inl rfl, Or.inl rfl, trivial⟩, rfl, rfl, rfl, Nat.le_of_ble_eq_true rfl⟩ rfl zC1 rfl rfl dX1_falls_152 (fun r_152 w_152 hp => ?_) (fun _ _ h => h.elim)
                obtain ⟨rfl, sn1, g1, sm1, D1, rfl⟩ := hp
                refine z_weq (w' := [zPl _ _, zO _ [zr _ _, zr _ _, zr _ _, zr _ _, zr _ _, zi _, zi _, zr _ _, zr _ _], zH, zO _ [zr _ _, zi _, zi _, zi _], zAi 0 24 _, zH, zH, zH, zH, zO _ [zi _, zr _ _, zi _], zAr _ 10 _, zH, zH, zH, zH, zH, zH, zH, zH, zH, zH, zH, zO _ [zi _, zi _, zr _ _], zAi 0 24 _, zAi 0 (prs n f).length _]) rfl ?_
                refine z_seq (S' := zi _ :: _) rfl ?_
                refine z_istore F dX1_falls_155 (Nat.le_of_ble_eq_true rfl) ?_
                refine z_leq (L' := [_, _, _, _, _, _, _, _, _, _, _, _, _]) rfl ?_
                refine z_iload F dX1_falls_157 rfl ?_
                refine z_iload F dX1_falls_159 rfl ?_
                refine z_icmp_gt F (tgt := 167) dX1_falls_161 (by decide) (fun c_161 => ?_) (fun c_161 => ?_)
                · refine z_iload F dX1_falls_167 rfl ?_
                  refine z_istore F dX1_falls_169 (Nat.le_of_ble_eq_true rfl) ?_
                  refine z_leq (L' := [_, _, _, _, _, _, _, _, _, _, _, _, _]) rfl ?_
                  refine z_iload F dX1_falls_171 rfl ?_
                  refine z_istore F dX1_falls_173 (Nat.le_of_ble_eq_true rfl) ?_
                  refine z_leq (L' := [_, _, _, _, _, _, _, _, _, _, _, _, _]) rfl ?_
                  refine z_iload F dX1_falls_175 rfl ?_
                  refine z_istore F dX1_falls_177 (Nat.le_of_ble_eq_true rfl) ?_
                  refine z_leq (L' := [_, _, _, _, _, _, _, _, _, _, _, _, _]) rfl ?_
                  refine z_iinc F (nI 0) dX1_falls_179 rfl (rfl) ?_
                  refine z_leq (L' := [_, _, _, _, _, _, _, _, _, _, _, _, _]) rfl ?_
                  refine z_goto F (tgt := 126) dX1_falls_182 (by decide) ?_
                  have e9 : fa1 (flV n f kind) (i + 1) = some (flV n f kind i i, i, i) := fax_lt hB hle c_161
                  have hx := ex (by omega) sn1 g1 sm1 D1
                  rw [e9] at hx
                  refine z_loc _ ?_ hx
                  exact ⟨rfl, rfl, rfl, rfl, rfl, rfl, rfl, rfl, rfl, rfl, rfl, trivial⟩
                · refine z_goto F (tgt := 179) dX1_falls_164 (by decide) ?_
                  refine z_iinc F (nI 0) dX1_falls_179 rfl (rfl) ?_
                  refine z_leq (L' := [_, _, _, _, _, _, _, _, _, _, _, _, _]) rfl ?_
                  refine z_goto F (tgt := 126) dX1_falls_182 (by decide) ?_
                  have e9 : fa1 (flV n f kind) (i + 1) = fa1 (flV n f kind) i := fax_ge hB hle c_161
                  have hx := ex (by omega) sn1 g1 sm1 D1
                  rw [e9] at hx
                  refine z_loc _ ?_ hx
                  exact ⟨rfl, rfl, rfl, rfl, rfl, rfl, rfl, rfl, rfl, rfl, rfl, trivial⟩
            · exact absurd c_130 (by omega)
          · exact absurd c_113 (by omega)
  have z2 : many = 2 → ¬ few many kind n f → ∀ (u i : Nat) (sn g sm : Int32) (Df : Nat → Int32), flN kind n f - i < u → i ≤ flN kind n f → Z X [some (zr 1 0), none, some (zi (nI kind)), some (zi (nI many)), some (zr 22 0), some (zr 24 0), some (zi (nI (flN kind n f))), some (zi (fvI (fa2 (flV n f kind) (flN kind n f) i))), some (zi (faI (fa2 (flV n f kind) (flN kind n f) i))), some (zi (fbI (fa2 (flV n f kind) (flN kind n f) i))), some (zi (nI i)), none, none] [] (xFf P t fp sn g sm Df (eLs m0 c0 (zr 10 0)) (zAv 10 ga) j n d f) 4 118 96 := by
    intro em hnf u
    induction u with
    | zero => intro i sn g sm Df hu; omega
    | succ u ih =>
      intro i sn g sm Df hu hi
      have hO : flO many kind n f = fa2 (flV n f kind) (flN kind n f) (flN kind n f) := by unfold flO; rw [if_neg (by omega), if_neg (by omega)]
      have hB0 := fa2_B (N := flN kind n f) (flV_le n f kind) i
      have inn : i < flN kind n f → ∀ (u2 q : Nat) (sn g sm : Int32) (Df : Nat → Int32), flN kind n f - q < u2 → i < q → q ≤ flN kind n f → Z X [some (zr 1 0), none, some (zi (nI kind)), some (zi (nI many)), some (zr 22 0), some (zr 24 0), some (zi (nI (flN kind n f))), some (zi (fvI (faR (flV n f kind) i (fa2 (flV n f kind) (flN kind n f) i) q))), some (zi (faI (faR (flV n f kind) i (fa2 (flV n f kind) (flN kind n f) i) q))), some (zi (fbI (faR (flV n f kind) i (fa2 (flV n f kind) (flN kind n f) i) q))), some (zi (nI i)), some (zi (nI q)), none] [] (xFf P t fp sn g sm Df (eLs m0 c0 (zr 10 0)) (zAv 10 ga) j n d f) 4 118 126 := by
        intro hil u2
        induction u2 with
        | zero => intro q sn g sm Df hu2; omega
        | succ u2 ih2 =>
          intro q sn g sm Df hu2 hiq hq
          have hB := faR_B (i := i) (flV_le n f kind) hB0 q hq
          have hle := flV_le n f kind i q
          have ex : faR (flV n f kind) i (fa2 (flV n f kind) (flN kind n f) i) (q + 1) = fax (faR (flV n f kind) i (fa2 (flV n f kind) (flN kind n f) i) q) (flV n f kind i q) i q := if_pos hiq
          refine z_iload F dX1_falls_126 rfl ?_
          refine z_iload_n F dX1_falls_128 rfl ?_
          refine z_iconst F (nI 1) dX1_falls_129 rfl ?_
          refine z_icmp_leN F (by omega) (by omega) (tgt := 138) dX1_falls_130 (by decide) (fun c_130 => ?_) (fun c_130 => ?_)
          · exact absurd c_130 (by omega)
          · refine z_iload F dX1_falls_133 rfl ?_
            refine z_goto F (tgt := 139) dX1_falls_135 (by decide) ?_
            refine z_icmp_geN F (by omega) (by omega) (tgt := 185) dX1_falls_139 (by decide) (fun c_139 => ?_) (fun c_139 => ?_)
            · have eq_ : q = flN kind n f := by omega
              subst eq_
              refine z_iincN F 1 dX1_falls_185 rfl rfl ?_
              refine z_leq (L' := [_, _, _, _, _, _, _, _, _, _, _, _, _]) rfl ?_
              refine z_goto F (tgt := 96) dX1_falls_188 (by decide) ?_
              refine z_loc _ ?_ (ih (i + 1) sn g sm Df (by omega) (by omega))
              exact ⟨rfl, rfl, rfl, rfl, rfl, rfl, rfl, rfl, rfl, rfl, trivial⟩
            · refine z_aload_n F dX1_falls_142 rfl ?_
              refine z_aload F dX1_falls_143 rfl ?_
              refine z_aload F dX1_falls_145 rfl ?_
              refine z_iload_n F dX1_falls_147 rfl ?_
              refine z_iload F dX1_falls_148 rfl ?_
              refine z_iload F dX1_falls_150 rfl ?_
              refine z_callV F (c_xleft11 t fp sn g sm Df n d kind f i q (by omega) (by omega) h hk) 5 rfl (lw_V q1071 q1073 qs23 q109 q1074) (by decide +kernel) ⟨Nat.le_of_ble_eq_true rfl, Nat.le_of_ble_eq_true rfl⟩ ⟨by omega, by omega⟩ [0, 1, 2, 3, 4, 5, 6, 7, 8, 9, 10, 11, 12, 13, 14, 15, 16, 17, 18, 19, 20, 21, 22, 23, 24] 25 ⟨rfl, rfl, rfl, ⟨Or.inl rfl, Or.inr rfl, Or.inl rfl, Or.inr rfl, Or.inr rfl, Or.inl rfl, Or.inl rfl, Or.inl rfl, Or.inl rfl, Or.inl rfl, Or.inl rfl, Or.inl rfl, Or.inl rfl, Or.inl rfl, Or.inl rfl, Or.inl rfl, Or.inl rfl, Or.inl rfl, Or.inl rfl, Or.inl rfl, Or.inl rfl, Or.inl rfl, Or.inr rfl, Or.inr rfl, Or.inr rfl, trivial⟩⟩ (fun h => nomatch h) (Nat.le_of_ble_eq_true rfl) ⟨⟨Or.inr (by first | exact ⟨rfl, pR_B _ (by decide)⟩ | exact ⟨rfl, uR_B (by decide) (by decide)⟩), Or.inl rfl, Or.inr trivial, Or.inl rfl, Or.inl rfl, Or.inr trivial, Or.inr trivial, Or.inr trivial, Or.inr trivial, Or.inr rfl, Or.inr (fun _ => rfl), Or.inr trivial, Or.inr trivial, Or.inr trivial, Or.inr trivial, Or.inr trivial, Or.inr trivial, Or.inr trivial, Or.inr trivial, Or.inr trivial, Or.inr trivial, Or.inr trivial, Or.inl rfl, Or.inl rfl, Or.inl rfl, trivial⟩, rfl, rfl, rfl, Nat.le_of_ble_eq_true rfl⟩ rfl zC1 rfl rfl dX1_falls_152 (fun r_152 w_152 hp => ?_) (fun _ _ h => h.elim)
              obtain ⟨rfl, sn1, g1, sm1, D1, rfl⟩ := hp
              refine z_weq (w' := [zPl _ _, zO _ [zr _ _, zr _ _, zr _ _, zr _ _, zr _ _, zi _, zi _, zr _ _, zr _ _], zH, zO _ [zr _ _, zi _, zi _, zi _], zAi 0 24 _, zH, zH, zH, zH, zO _ [zi _, zr _ _, zi _], zAr _ 10 _, zH, zH, zH, zH, zH, zH, zH, zH, zH, zH, zH, zO _ [zi _, zi _, zr _ _], zAi 0 24 _, zAi 0 (prs n f).length _]) rfl ?_
              refine z_seq (S' := zi _ :: _) rfl ?_
              refine z_istore F dX1_falls_155 (Nat.le_of_ble_eq_true rfl) ?_
              refine z_leq (L' := [_, _, _, _, _, _, _, _, _, _, _, _, _]) rfl ?_
              refine z_iload F dX1_falls_157 rfl ?_
              refine z_iload F dX1_falls_159 rfl ?_
              refine z_icmp_gt F (tgt := 167) dX1_falls_161 (by decide) (fun c_161 => ?_) (fun c_161 => ?_)
              · refine z_iload F dX1_falls_167 rfl ?_
                refine z_istore F dX1_falls_169 (Nat.le_of_ble_eq_true rfl) ?_
                refine z_leq (L' := [_, _, _, _, _, _, _, _, _, _, _, _, _]) rfl ?_
                refine z_iload F dX1_falls_171 rfl ?_
                refine z_istore F dX1_falls_173 (Nat.le_of_ble_eq_true rfl) ?_
                refine z_leq (L' := [_, _, _, _, _, _, _, _, _, _, _, _, _]) rfl ?_
                refine z_iload F dX1_falls_175 rfl ?_
                refine z_istore F dX1_falls_177 (Nat.le_of_ble_eq_true rfl) ?_
                refine z_leq (L' := [_, _, _, _, _, _, _, _, _, _, _, _, _]) rfl ?_
                refine z_iincN F 1 dX1_falls_179 rfl rfl ?_
                refine z_leq (L' := [_, _, _, _, _, _, _, _, _, _, _, _, _]) rfl ?_
                refine z_goto F (tgt := 126) dX1_falls_182 (by decide) ?_
                have hx := ih2 (q + 1) sn1 g1 sm1 D1 (by omega) (by omega) (by omega)
                rw [ex, fax_lt hB hle c_161] at hx
                refine z_loc _ ?_ hx
                exact ⟨rfl, rfl, rfl, rfl, rfl, rfl, rfl, rfl, rfl, rfl, rfl, trivial⟩
              · refine z_goto F (tgt := 179) dX1_falls_164 (by decide) ?_
                refine z_iincN F 1 dX1_falls_179 rfl rfl ?_
                refine z_leq (L' := [_, _, _, _, _, _, _, _, _, _, _, _, _]) rfl ?_
                refine z_goto F (tgt := 126) dX1_falls_182 (by decide) ?_
                have hx := ih2 (q + 1) sn1 g1 sm1 D1 (by omega) (by omega) (by omega)
                rw [ex, fax_ge hB hle c_161] at hx
                refine z_loc _ ?_ hx
                exact ⟨rfl, rfl, rfl, rfl, rfl, rfl, rfl, rfl, rfl, rfl, rfl, trivial⟩
      refine z_iload F dX1_falls_96 rfl ?_
      refine z_iload_n F dX1_falls_98 rfl ?_
      refine z_if_leN F (by omega) (tgt := 107) dX1_falls_99 (by decide) (fun c_99 => ?_) (fun c_99 => ?_)
      · exact absurd c_99 (by omega)
      · refine z_iload F dX1_falls_102 rfl ?_
        refine z_goto F (tgt := 108) dX1_falls_104 (by decide) ?_
        refine z_icmp_geN F (by omega) (by omega) (tgt := 191) dX1_falls_108 (by decide) (fun c_108 => ?_) (fun c_108 => ?_)
        · have ei : i = flN kind n f := by omega
          subst ei
          obtain ⟨b, hb1, hb2, hb3, hb5⟩ := flO_s (by omega) hnf
          rw [hO] at hb1
          have hb4 := hb3 (by omega)
          have hb6 := hb5 (by omega)
          rw [hb1]
          rw [hb1] at hO
          refine z_loc _ ?_ (e2 em hnf b.1 b.2.1 b.2.2 sn g sm Df hO (by omega) (by omega))
          exact ⟨rfl, rfl, rfl, rfl, trivial⟩
        · refine z_iload_n F dX1_falls_111 rfl ?_
          refine z_iconst F (nI 1) dX1_falls_112 rfl ?_
          refine z_icmp_leN F (by omega) (by omega) (tgt := 123) dX1_falls_113 (by decide) (fun c_113 => ?_) (fun c_113 => ?_)
          · exact absurd c_113 (by omega)
          · refine z_iload F dX1_falls_116 rfl ?_
            refine z_iconst F (nI 1) dX1_falls_118 rfl ?_
            refine z_iaddN F dX1_falls_119 ?_
            refine z_goto F (tgt := 124) dX1_falls_120 (by decide) ?_
            refine z_istore F dX1_falls_124 (Nat.le_of_ble_eq_true rfl) ?_
            refine z_leq (L' := [_, _, _, _, _, _, _, _, _, _, _, _, _]) rfl ?_
            have e9 := faR_ge (val := flV n f kind) (i := i) (o := fa2 (flV n f kind) (flN kind n f) i) (i + 1) (Nat.le_refl _)
            have nx := inn (by omega) (flN kind n f + 1) (i + 1) sn g sm Df (by omega) (by omega) (by omega)
            rw [e9] at nx
            exact nx
  have at55 : ∀ (v : Int32), v = nI (flN kind n f) → Z X [some (zr 1 0), none, some (zi (nI kind)), some (zi (nI many)), some (zr 22 0), some (zr 24 0), none, none, none, none, none, none, none] [zi v] (xFf P t fp sn0 g0 sm0 Df0 (eLs m0 c0 (zr 10 0)) (zAv 10 ga) j n d f) 4 118 55 := by
    intro v hv
    subst hv
    refine z_istore F dX1_falls_55 (Nat.le_of_ble_eq_true rfl) ?_
    refine z_leq (L' := [_, _, _, _, _, _, _, _, _, _, _, _, _]) rfl ?_
    refine z_iload_n F dX1_falls_57 rfl ?_
    refine z_iload F dX1_falls_58 rfl ?_
    refine z_icmp_gtN F (by omega) (by omega) (tgt := 74) dX1_falls_60 (by decide) (fun c_60 => ?_) (fun c_60 => ?_)
    · refine z_loc [some _, none, some _, some _, none, none, some _, none, none, none, none, none, none] ⟨rfl, rfl, rfl, rfl, trivial⟩ ?_
      refine z_unfocus F rfl j 22 23 22 hj zput_self rfl rfl (Nat.le_of_ble_eq_true rfl) (Nat.le_of_ble_eq_true rfl) (Nat.le_of_ble_eq_true rfl) (Nat.le_of_ble_eq_true rfl) [zO _ [zr _ _, zr _ _, zr _ _, zr _ _, zr _ _, zi _, zi _, zr _ _, zr _ _], zH, zO _ [zr _ _, zi _, zi _, zi _], zAi 0 24 _, zH, zH, zH, zH, zO _ [zi _, zr _ _, zi _], zAr _ 10 _, zH, zH, zH, zH, zH, zH, zH, zH, zH, zH, zH] rfl ⟨rfl, trivial, rfl, trivial, trivial, trivial, trivial, trivial, rfl, (fun _ => rfl), trivial, trivial, trivial, trivial, trivial, trivial, trivial, trivial, trivial, trivial, trivial, trivial⟩ uOK rfl rfl ?_
      refine z_weq (w' := zPl (pR (zput P j (some _))) (zput P j (some _)) :: _) (congrArg (fun z => z :: _) uPl2) ?_
      refine z_iconst F (-1) dX1_falls_74 rfl ?_
      exact z_iret F E rfl dX1_falls_75 (by omega) (by omega) (⟨sn0, g0, sm0, Df0, Or.inl ⟨Or.inl (by omega), rfl, by rw [zput_some hP] <;> rfl⟩⟩)
    · refine z_iload_n F dX1_falls_63 rfl ?_
      refine z_iconst F (nI 1) dX1_falls_64 rfl ?_
      refine z_icmp_neN F (by omega) (by omega) (tgt := 76) dX1_falls_65 (by decide) (fun c_65 => ?_) (fun c_65 => ?_)
      · have hnf : ¬ few many kind n f := fun z => z.elim (fun z => by omega) (fun z => by omega)
        refine z_iconst F (-1) dX1_falls_76 rfl ?_
        refine z_istore F dX1_falls_77 (Nat.le_of_ble_eq_true rfl) ?_
        refine z_leq (L' := [_, _, _, _, _, _, _, _, _, _, _, _, _]) rfl ?_
        refine z_iconst F (-1) dX1_falls_79 rfl ?_
        refine z_istore F dX1_falls_80 (Nat.le_of_ble_eq_true rfl) ?_
        refine z_leq (L' := [_, _, _, _, _, _, _, _, _, _, _, _, _]) rfl ?_
        refine z_iconst F (-1) dX1_falls_82 rfl ?_
        refine z_istore F dX1_falls_83 (Nat.le_of_ble_eq_true rfl) ?_
        refine z_leq (L' := [_, _, _, _, _, _, _, _, _, _, _, _, _]) rfl ?_
        refine z_iload_n F dX1_falls_85 rfl ?_
        refine z_if_leN F (by omega) (tgt := 93) dX1_falls_86 (by decide) (fun c_86 => ?_) (fun c_86 => ?_)
        · refine z_iconst F (-1) dX1_falls_93 rfl ?_
          refine z_istore F dX1_falls_94 (Nat.le_of_ble_eq_true rfl) ?_
          refine z_leq (L' := [_, _, _, _, _, _, _, _, _, _, _, _, _]) rfl ?_
          exact z0 (by omega) hnf sn0 g0 sm0 Df0
        · refine z_iconst F (nI 0) dX1_falls_89 rfl ?_
          refine z_goto F (tgt := 94) dX1_falls_90 (by decide) ?_
          refine z_istore F dX1_falls_94 (Nat.le_of_ble_eq_true rfl) ?_
          refine z_leq (L' := [_, _, _, _, _, _, _, _, _, _, _, _, _]) rfl ?_
          rcases (show many = 1 ∨ many = 2 by omega) with e1_ | e2_
          · exact z1 e1_ hnf (flN kind n f + 1) 0 sn0 g0 sm0 Df0 (by omega) (by omega)
          · exact z2 e2_ hnf (flN kind n f + 1) 0 sn0 g0 sm0 Df0 (by omega) (by omega)
      · refine z_iload_n F dX1_falls_68 rfl ?_
        refine z_iload F dX1_falls_69 rfl ?_
        refine z_icmp_neN F (by omega) (by omega) (tgt := 76) dX1_falls_71 (by decide) (fun c_71 => ?_) (fun c_71 => ?_)
        · have hnf : ¬ few many kind n f := fun z => z.elim (fun z => by omega) (fun z => by rw [flN, if_neg (by omega)] at c_71; omega)
          refine z_iconst F (-1) dX1_falls_76 rfl ?_
          refine z_istore F dX1_falls_77 (Nat.le_of_ble_eq_true rfl) ?_
          refine z_leq (L' := [_, _, _, _, _, _, _, _, _, _, _, _, _]) rfl ?_
          refine z_iconst F (-1) dX1_falls_79 rfl ?_
          refine z_istore F dX1_falls_80 (Nat.le_of_ble_eq_true rfl) ?_
          refine z_leq (L' := [_, _, _, _, _, _, _, _, _, _, _, _, _]) rfl ?_
          refine z_iconst F (-1) dX1_falls_82 rfl ?_
          refine z_istore F dX1_falls_83 (Nat.le_of_ble_eq_true rfl) ?_
          refine z_leq (L' := [_, _, _, _, _, _, _, _, _, _, _, _, _]) rfl ?_
          refine z_iload_n F dX1_falls_85 rfl ?_
          refine z_if_leN F (by omega) (tgt := 93) dX1_falls_86 (by decide) (fun c_86 => ?_) (fun c_86 => ?_)
          · refine z_iconst F (-1) dX1_falls_93 rfl ?_
            refine z_istore F dX1_falls_94 (Nat.le_of_ble_eq_true rfl) ?_
            refine z_leq (L' := [_, _, _, _, _, _, _, _, _, _, _, _, _]) rfl ?_
            exact z0 (by omega) hnf sn0 g0 sm0 Df0
          · refine z_iconst F (nI 0) dX1_falls_89 rfl ?_
            refine z_goto F (tgt := 94) dX1_falls_90 (by decide) ?_
            refine z_istore F dX1_falls_94 (Nat.le_of_ble_eq_true rfl) ?_
            refine z_leq (L' := [_, _, _, _, _, _, _, _, _, _, _, _, _]) rfl ?_
            rcases (show many = 1 ∨ many = 2 by omega) with e1_ | e2_
            · exact z1 e1_ hnf (flN kind n f + 1) 0 sn0 g0 sm0 Df0 (by omega) (by omega)
            · exact z2 e2_ hnf (flN kind n f + 1) 0 sn0 g0 sm0 Df0 (by omega) (by omega)
        · refine z_loc [some _, none, some _, some _, none, none, some _, none, none, none, none, none, none] ⟨rfl, rfl, rfl, rfl, trivial⟩ ?_
          refine z_unfocus F rfl j 22 23 22 hj zput_self rfl rfl (Nat.le_of_ble_eq_true rfl) (Nat.le_of_ble_eq_true rfl) (Nat.le_of_ble_eq_true rfl) (Nat.le_of_ble_eq_true rfl) [zO _ [zr _ _, zr _ _, zr _ _, zr _ _, zr _ _, zi _, zi _, zr _ _, zr _ _], zH, zO _ [zr _ _, zi _, zi _, zi _], zAi 0 24 _, zH, zH, zH, zH, zO _ [zi _, zr _ _, zi _], zAr _ 10 _, zH, zH, zH, zH, zH, zH, zH, zH, zH, zH, zH] rfl ⟨rfl, trivial, rfl, trivial, trivial, trivial, trivial, trivial, rfl, (fun _ => rfl), trivial, trivial, trivial, trivial, trivial, trivial, trivial, trivial, trivial, trivial, trivial, trivial⟩ uOK rfl rfl ?_
          refine z_weq (w' := zPl (pR (zput P j (some _))) (zput P j (some _)) :: _) (congrArg (fun z => z :: _) uPl2) ?_
          refine z_iconst F (-1) dX1_falls_74 rfl ?_
          exact z_iret F E rfl dX1_falls_75 (by omega) (by omega) (⟨sn0, g0, sm0, Df0, Or.inl ⟨Or.inr ⟨by omega, by rw [flN, if_neg (by omega)] at c_71; omega⟩, rfl, by rw [zput_some hP] <;> rfl⟩⟩)
  refine z_aload_n F dX1_falls_0 rfl ?_
  refine z_iload_n F dX1_falls_1 rfl ?_
  refine z_callV F (c_netAt_ok P t fp j hj hP) 1 rfl (lw_V q429 q431 qs0 q109 q432) (by decide +kernel) ⟨Nat.le_of_ble_eq_true rfl, Nat.le_of_ble_eq_true rfl⟩ ⟨by omega, by omega⟩ [0, 1, 2, 3, 4, 5, 6, 7, 8, 9, 10, 11, 12, 13, 14, 15, 16, 17, 18, 19, 20, 21] 22 ⟨rfl, rfl, rfl, ⟨Or.inr (congrArg some (zrnP rfl).symm), Or.inr rfl, Or.inl rfl, Or.inl rfl, Or.inl rfl, Or.inl rfl, Or.inl rfl, Or.inl rfl, Or.inl rfl, Or.inl rfl, Or.inl rfl, Or.inl rfl, Or.inl rfl, Or.inl rfl, Or.inl rfl, Or.inl rfl, Or.inl rfl, Or.inl rfl, Or.inl rfl, Or.inl rfl, Or.inl rfl, Or.inl rfl, trivial⟩⟩ (fun _ => rfl) (Nat.le_of_ble_eq_true rfl) ⟨⟨Or.inl rfl, Or.inl rfl, Or.inr trivial, Or.inr rfl, Or.inr trivial, Or.inr trivial, Or.inr trivial, Or.inr trivial, Or.inr trivial, Or.inr rfl, Or.inr (fun _ => rfl), Or.inr trivial, Or.inr trivial, Or.inr trivial, Or.inr trivial, Or.inr trivial, Or.inr trivial, Or.inr trivial, Or.inr trivial, Or.inr trivial, Or.inr trivial, Or.inr trivial, trivial⟩, rfl, rfl, rfl, Nat.le_of_ble_eq_true rfl⟩ rfl zC1 rfl rfl dX1_falls_2 (fun r_2 w_2 hp => ?_) (fun _ _ h => h.elim)
  obtain ⟨rfl, rfl⟩ := hp
  refine z_weq (w' := zPl (pR _) _ :: _) (congrArg (fun z => z :: _) (zrnP rfl)) ?_
  refine z_weq (w' := [zPl _ _, zO _ [zr _ _, zr _ _, zr _ _, zr _ _, zr _ _, zi _, zi _, zr _ _, zr _ _], zH, zO _ [zr _ _, zi _, zi _, zi _], zAi 0 24 _, zH, zH, zH, zH, zO _ [zi _, zr _ _, zi _], zAr _ 10 _, zH, zH, zH, zH, zH, zH, zH, zH, zH, zH, zH]) rfl ?_
  refine z_seq (S' := zr _ _ :: _) rfl ?_
  refine z_astore F dX1_falls_5 (Nat.le_of_ble_eq_true rfl) ?_
  refine z_leq (L' := [_, _, _, _, _, _, _, _, _, _, _, _, _]) rfl ?_
  refine z_foc F j hj hP (N := 22) (M := 23) (L' := [_, _, _, _, some (zr 22 0), _, _, _, _, _, _, _, _]) (S' := []) rfl rfl (Nat.le_of_ble_eq_true rfl) ⟨rfl, trivial, rfl, trivial, trivial, trivial, trivial, trivial, rfl, (fun _ => rfl), trivial, trivial, trivial, trivial, trivial, trivial, trivial, trivial, trivial, trivial, trivial, trivial⟩ ⟨Or.inl rfl, Or.inl rfl, Or.inl rfl, Or.inl rfl, Or.inr ⟨rfl, rfl⟩, Or.inl rfl, Or.inl rfl, Or.inl rfl, Or.inl rfl, Or.inl rfl, Or.inl rfl, Or.inl rfl, Or.inl rfl, trivial⟩ rfl trivial rfl ?_
  refine z_weq (w' := [zPl _ _, zO _ [zr _ _, zr _ _, zr _ _, zr _ _, zr _ _, zi _, zi _, zr _ _, zr _ _], zH, zO _ [zr _ _, zi _, zi _, zi _], zAi 0 24 _, zH, zH, zH, zH, zO _ [zi _, zr _ _, zi _], zAr _ 10 _, zH, zH, zH, zH, zH, zH, zH, zH, zH, zH, zH, zO _ [zi _, zi _, zr _ _], zAi 0 24 _]) rfl ?_
  refine z_iload_n F dX1_falls_7 rfl ?_
  refine z_if_eqN F (by omega) (tgt := 16) dX1_falls_8 (by decide) (fun c_8 => ?_) (fun c_8 => ?_)
  · refine z_iconstB F true dX1_falls_16 rfl ?_
    refine z_goto F (tgt := 21) dX1_falls_17 (by decide) ?_
    refine z_callS F (c_fnd true) 1 rfl (lw_S q433 q434 q109 q435) (by decide +kernel) ⟨Nat.le_of_ble_eq_true rfl, Nat.le_of_ble_eq_true rfl⟩ ⟨by omega, by omega⟩ [0] 24 ⟨rfl, rfl, rfl, ⟨Or.inl rfl, trivial⟩⟩ (fun h => nomatch h) (Nat.le_of_ble_eq_true rfl) ⟨⟨Or.inr (by first | exact ⟨rfl, pR_B _ (by decide)⟩ | exact ⟨rfl, uR_B (by decide) (by decide)⟩), Or.inr rfl, Or.inr trivial, Or.inr rfl, Or.inr trivial, Or.inr trivial, Or.inr trivial, Or.inr trivial, Or.inr trivial, Or.inr rfl, Or.inr (fun _ => rfl), Or.inr trivial, Or.inr trivial, Or.inr trivial, Or.inr trivial, Or.inr trivial, Or.inr trivial, Or.inr trivial, Or.inr trivial, Or.inr trivial, Or.inr trivial, Or.inr trivial, Or.inr rfl, Or.inr trivial, trivial⟩, rfl, rfl, rfl, Nat.le_of_ble_eq_true rfl⟩ rfl rfl dX1_falls_21 (fun r_21 w_21 hp => ?_) (fun E_ w_ hx => by obtain ⟨-, hb, -⟩ := hx; cases hb)
    obtain ⟨rfl, -, rfl⟩ := hp
    refine z_weq (w' := [zPl _ _, zO _ [zr _ _, zr _ _, zr _ _, zr _ _, zr _ _, zi _, zi _, zr _ _, zr _ _], zH, zO _ [zr _ _, zi _, zi _, zi _], zAi 0 24 _, zH, zH, zH, zH, zO _ [zi _, zr _ _, zi _], zAr _ 10 _, zH, zH, zH, zH, zH, zH, zH, zH, zH, zH, zH, zO _ [zi _, zi _, zr _ _], zAi 0 24 _]) rfl ?_
    refine z_seq (S' := []) rfl ?_
    refine z_iload_n F dX1_falls_24 rfl ?_
    refine z_iconst F (nI 0) dX1_falls_25 rfl ?_
    refine z_iconst F (nI 2) dX1_falls_26 rfl ?_
    refine z_callS F (c_in (nI many) (nI 0) (nI 2)) 3 rfl (lw_S q349 q350 q109 q351) (by decide +kernel) ⟨Nat.le_of_ble_eq_true rfl, Nat.le_of_ble_eq_true rfl⟩ ⟨by omega, by omega⟩ [0] 24 ⟨rfl, rfl, rfl, ⟨Or.inl rfl, trivial⟩⟩ (fun h => nomatch h) (Nat.le_of_ble_eq_true rfl) ⟨⟨Or.inr (by first | exact ⟨rfl, pR_B _ (by decide)⟩ | exact ⟨rfl, uR_B (by decide) (by decide)⟩), Or.inr rfl, Or.inr trivial, Or.inr rfl, Or.inr trivial, Or.inr trivial, Or.inr trivial, Or.inr trivial, Or.inr trivial, Or.inr rfl, Or.inr (fun _ => rfl), Or.inr trivial, Or.inr trivial, Or.inr trivial, Or.inr trivial, Or.inr trivial, Or.inr trivial, Or.inr trivial, Or.inr trivial, Or.inr trivial, Or.inr trivial, Or.inr trivial, Or.inr rfl, Or.inr trivial, trivial⟩, rfl, rfl, rfl, Nat.le_of_ble_eq_true rfl⟩ rfl rfl dX1_falls_27 (fun r_27 w_27 hp => ?_) (fun _ _ h => h.elim)
    obtain ⟨rfl, rfl⟩ := hp
    refine z_weq (w' := [zPl _ _, zO _ [zr _ _, zr _ _, zr _ _, zr _ _, zr _ _, zi _, zi _, zr _ _, zr _ _], zH, zO _ [zr _ _, zi _, zi _, zi _], zAi 0 24 _, zH, zH, zH, zH, zO _ [zi _, zr _ _, zi _], zAr _ 10 _, zH, zH, zH, zH, zH, zH, zH, zH, zH, zH, zH, zO _ [zi _, zi _, zr _ _], zAi 0 24 _]) rfl ?_
    refine z_seq (S' := zi _ :: _) rfl ?_
    rw [show inB (nI many) (nI 0) (nI 2) = true from inB_n (by omega) (by omega) (by omega)]
    refine z_callS F (c_rgt true) 1 rfl (lw_S q538 q539 q109 q540) (by decide +kernel) ⟨Nat.le_of_ble_eq_true rfl, Nat.le_of_ble_eq_true rfl⟩ ⟨by omega, by omega⟩ [0] 24 ⟨rfl, rfl, rfl, ⟨Or.inl rfl, trivial⟩⟩ (fun h => nomatch h) (Nat.le_of_ble_eq_true rfl) ⟨⟨Or.inr (by first | exact ⟨rfl, pR_B _ (by decide)⟩ | exact ⟨rfl, uR_B (by decide) (by decide)⟩), Or.inr rfl, Or.inr trivial, Or.inr rfl, Or.inr trivial, Or.inr trivial, Or.inr trivial, Or.inr trivial, Or.inr trivial, Or.inr rfl, Or.inr (fun _ => rfl), Or.inr trivial, Or.inr trivial, Or.inr trivial, Or.inr trivial, Or.inr trivial, Or.inr trivial, Or.inr trivial, Or.inr trivial, Or.inr trivial, Or.inr trivial, Or.inr trivial, Or.inr rfl, Or.inr trivial, trivial⟩, rfl, rfl, rfl, Nat.le_of_ble_eq_true rfl⟩ rfl rfl dX1_falls_30 (fun r_30 w_30 hp => ?_) (fun E_ w_ hx => by obtain ⟨-, hb, -⟩ := hx; cases hb)
    obtain ⟨rfl, -, rfl⟩ := hp
    refine z_weq (w' := [zPl _ _, zO _ [zr _ _, zr _ _, zr _ _, zr _ _, zr _ _, zi _, zi _, zr _ _, zr _ _], zH, zO _ [zr _ _, zi _, zi _, zi _], zAi 0 24 _, zH, zH, zH, zH, zO _ [zi _, zr _ _, zi _], zAr _ 10 _, zH, zH, zH, zH, zH, zH, zH, zH, zH, zH, zH, zO _ [zi _, zi _, zr _ _], zAi 0 24 _]) rfl ?_
    refine z_seq (S' := []) rfl ?_
    refine z_aload F dX1_falls_33 rfl ?_
    refine z_callV F (c_row n (nI d) f h.sy (by omega)) 0 rfl (lw_V q779 q780 q781 q116 q782) (by decide +kernel) ⟨Nat.le_of_ble_eq_true rfl, Nat.le_of_ble_eq_true rfl⟩ ⟨by omega, by omega⟩ [0, 22, 23] 24 ⟨rfl, rfl, rfl, ⟨Or.inl rfl, Or.inr rfl, Or.inr rfl, trivial⟩⟩ (fun h => nomatch h) (Nat.le_of_ble_eq_true rfl) ⟨⟨Or.inr (by first | exact ⟨rfl, pR_B _ (by decide)⟩ | exact ⟨rfl, uR_B (by decide) (by decide)⟩), Or.inr rfl, Or.inr trivial, Or.inr rfl, Or.inr trivial, Or.inr trivial, Or.inr trivial, Or.inr trivial, Or.inr trivial, Or.inr rfl, Or.inr (fun _ => rfl), Or.inr trivial, Or.inr trivial, Or.inr trivial, Or.inr trivial, Or.inr trivial, Or.inr trivial, Or.inr trivial, Or.inr trivial, Or.inr trivial, Or.inr trivial, Or.inr trivial, Or.inl rfl, Or.inl rfl, trivial⟩, rfl, rfl, rfl, Nat.le_of_ble_eq_true rfl⟩ rfl zC5 rfl rfl dX1_falls_35 (fun r_35 w_35 hp => ?_) (fun _ _ h => h.elim)
    obtain ⟨rfl, rfl⟩ := hp
    refine z_weq (w' := [zPl _ _, zO _ [zr _ _, zr _ _, zr _ _, zr _ _, zr _ _, zi _, zi _, zr _ _, zr _ _], zH, zO _ [zr _ _, zi _, zi _, zi _], zAi 0 24 _, zH, zH, zH, zH, zO _ [zi _, zr _ _, zi _], zAr _ 10 _, zH, zH, zH, zH, zH, zH, zH, zH, zH, zH, zH, zO _ [zi _, zi _, zr _ _], zAi 0 24 _, zAi 0 (prs n f).length _]) rfl ?_
    refine z_seq (S' := zr _ _ :: _) rfl ?_
    refine z_astore F dX1_falls_38 (Nat.le_of_ble_eq_true rfl) ?_
    refine z_leq (L' := [_, _, _, _, _, _, _, _, _, _, _, _, _]) rfl ?_
    refine z_iload_n F dX1_falls_40 rfl ?_
    refine z_if_neN F (by omega) (tgt := 50) dX1_falls_41 (by decide) (fun c_41 => ?_) (fun c_41 => ?_)
    · refine z_aload F dX1_falls_50 rfl ?_
      refine z_getN F zC5 (f := 0) rfl (Nat.le_of_ble_eq_true rfl) q245 rfl dX1_falls_52 ?_
      refine z_loc _ ?_ (at55 _ (by rw [flN, if_neg (by omega)]))
      exact ⟨rfl, rfl, rfl, rfl, rfl, trivial⟩
    · refine z_aload F dX1_falls_44 rfl ?_
      refine z_alenN F (fun _ => rfl) rfl dX1_falls_46 ?_
      refine z_goto F (tgt := 55) dX1_falls_47 (by decide) ?_
      refine z_loc _ ?_ (at55 _ (by rw [flN, if_pos (by omega)]))
      exact ⟨rfl, rfl, rfl, rfl, rfl, trivial⟩
  · refine z_iload_n F dX1_falls_11 rfl ?_
    refine z_iconst F (nI 1) dX1_falls_12 rfl ?_
    refine z_icmp_neN F (by omega) (by omega) (tgt := 20) dX1_falls_13 (by decide) (fun c_13 => ?_) (fun c_13 => ?_)
    · exact absurd c_13 (by omega)
    · refine z_iconstB F true dX1_falls_16 rfl ?_
      refine z_goto F (tgt := 21) dX1_falls_17 (by decide) ?_
      refine z_callS F (c_fnd true) 1 rfl (lw_S q433 q434 q109 q435) (by decide +kernel) ⟨Nat.le_of_ble_eq_true rfl, Nat.le_of_ble_eq_true rfl⟩ ⟨by omega, by omega⟩ [0] 24 ⟨rfl, rfl, rfl, ⟨Or.inl rfl, trivial⟩⟩ (fun h => nomatch h) (Nat.le_of_ble_eq_true rfl) ⟨⟨Or.inr (by first | exact ⟨rfl, pR_B _ (by decide)⟩ | exact ⟨rfl, uR_B (by decide) (by decide)⟩), Or.inr rfl, Or.inr trivial, Or.inr rfl, Or.inr trivial, Or.inr trivial, Or.inr trivial, Or.inr trivial, Or.inr trivial, Or.inr rfl, Or.inr (fun _ => rfl), Or.inr trivial, Or.inr trivial, Or.inr trivial, Or.inr trivial, Or.inr trivial, Or.inr trivial, Or.inr trivial, Or.inr trivial, Or.inr trivial, Or.inr trivial, Or.inr trivial, Or.inr rfl, Or.inr trivial, trivial⟩, rfl, rfl, rfl, Nat.le_of_ble_eq_true rfl⟩ rfl rfl dX1_falls_21 (fun r_21 w_21 hp => ?_) (fun E_ w_ hx => by obtain ⟨-, hb, -⟩ := hx; cases hb)
      obtain ⟨rfl, -, rfl⟩ := hp
      refine z_weq (w' := [zPl _ _, zO _ [zr _ _, zr _ _, zr _ _, zr _ _, zr _ _, zi _, zi _, zr _ _, zr _ _], zH, zO _ [zr _ _, zi _, zi _, zi _], zAi 0 24 _, zH, zH, zH, zH, zO _ [zi _, zr _ _, zi _], zAr _ 10 _, zH, zH, zH, zH, zH, zH, zH, zH, zH, zH, zH, zO _ [zi _, zi _, zr _ _], zAi 0 24 _]) rfl ?_
      refine z_seq (S' := []) rfl ?_
      refine z_iload_n F dX1_falls_24 rfl ?_
      refine z_iconst F (nI 0) dX1_falls_25 rfl ?_
      refine z_iconst F (nI 2) dX1_falls_26 rfl ?_
      refine z_callS F (c_in (nI many) (nI 0) (nI 2)) 3 rfl (lw_S q349 q350 q109 q351) (by decide +kernel) ⟨Nat.le_of_ble_eq_true rfl, Nat.le_of_ble_eq_true rfl⟩ ⟨by omega, by omega⟩ [0] 24 ⟨rfl, rfl, rfl, ⟨Or.inl rfl, trivial⟩⟩ (fun h => nomatch h) (Nat.le_of_ble_eq_true rfl) ⟨⟨Or.inr (by first | exact ⟨rfl, pR_B _ (by decide)⟩ | exact ⟨rfl, uR_B (by decide) (by decide)⟩), Or.inr rfl, Or.inr trivial, Or.inr rfl, Or.inr trivial, Or.inr trivial, Or.inr trivial, Or.inr trivial, Or.inr trivial, Or.inr rfl, Or.inr (fun _ => rfl), Or.inr trivial, Or.inr trivial, Or.inr trivial, Or.inr trivial, Or.inr trivial, Or.inr trivial, Or.inr trivial, Or.inr trivial, Or.inr trivial, Or.inr trivial, Or.inr trivial, Or.inr rfl, Or.inr trivial, trivial⟩, rfl, rfl, rfl, Nat.le_of_ble_eq_true rfl⟩ rfl rfl dX1_falls_27 (fun r_27 w_27 hp => ?_) (fun _ _ h => h.elim)
      obtain ⟨rfl, rfl⟩ := hp
      refine z_weq (w' := [zPl _ _, zO _ [zr _ _, zr _ _, zr _ _, zr _ _, zr _ _, zi _, zi _, zr _ _, zr _ _], zH, zO _ [zr _ _, zi _, zi _, zi _], zAi 0 24 _, zH, zH, zH, zH, zO _ [zi _, zr _ _, zi _], zAr _ 10 _, zH, zH, zH, zH, zH, zH, zH, zH, zH, zH, zH, zO _ [zi _, zi _, zr _ _], zAi 0 24 _]) rfl ?_
      refine z_seq (S' := zi _ :: _) rfl ?_
      rw [show inB (nI many) (nI 0) (nI 2) = true from inB_n (by omega) (by omega) (by omega)]
      refine z_callS F (c_rgt true) 1 rfl (lw_S q538 q539 q109 q540) (by decide +kernel) ⟨Nat.le_of_ble_eq_true rfl, Nat.le_of_ble_eq_true rfl⟩ ⟨by omega, by omega⟩ [0] 24 ⟨rfl, rfl, rfl, ⟨Or.inl rfl, trivial⟩⟩ (fun h => nomatch h) (Nat.le_of_ble_eq_true rfl) ⟨⟨Or.inr (by first | exact ⟨rfl, pR_B _ (by decide)⟩ | exact ⟨rfl, uR_B (by decide) (by decide)⟩), Or.inr rfl, Or.inr trivial, Or.inr rfl, Or.inr trivial, Or.inr trivial, Or.inr trivial, Or.inr trivial, Or.inr trivial, Or.inr rfl, Or.inr (fun _ => rfl), Or.inr trivial, Or.inr trivial, Or.inr trivial, Or.inr trivial, Or.inr trivial, Or.inr trivial, Or.inr trivial, Or.inr trivial, Or.inr trivial, Or.inr trivial, Or.inr trivial, Or.inr rfl, Or.inr trivial, trivial⟩, rfl, rfl, rfl, Nat.le_of_ble_eq_true rfl⟩ rfl rfl dX1_falls_30 (fun r_30 w_30 hp => ?_) (fun E_ w_ hx => by obtain ⟨-, hb, -⟩ := hx; cases hb)
      obtain ⟨rfl, -, rfl⟩ := hp
      refine z_weq (w' := [zPl _ _, zO _ [zr _ _, zr _ _, zr _ _, zr _ _, zr _ _, zi _, zi _, zr _ _, zr _ _], zH, zO _ [zr _ _, zi _, zi _, zi _], zAi 0 24 _, zH, zH, zH, zH, zO _ [zi _, zr _ _, zi _], zAr _ 10 _, zH, zH, zH, zH, zH, zH, zH, zH, zH, zH, zH, zO _ [zi _, zi _, zr _ _], zAi 0 24 _]) rfl ?_
      refine z_seq (S' := []) rfl ?_
      refine z_aload F dX1_falls_33 rfl ?_
      refine z_callV F (c_row n (nI d) f h.sy (by omega)) 0 rfl (lw_V q779 q780 q781 q116 q782) (by decide +kernel) ⟨Nat.le_of_ble_eq_true rfl, Nat.le_of_ble_eq_true rfl⟩ ⟨by omega, by omega⟩ [0, 22, 23] 24 ⟨rfl, rfl, rfl, ⟨Or.inl rfl, Or.inr rfl, Or.inr rfl, trivial⟩⟩ (fun h => nomatch h) (Nat.le_of_ble_eq_true rfl) ⟨⟨Or.inr (by first | exact ⟨rfl, pR_B _ (by decide)⟩ | exact ⟨rfl, uR_B (by decide) (by decide)⟩), Or.inr rfl, Or.inr trivial, Or.inr rfl, Or.inr trivial, Or.inr trivial, Or.inr trivial, Or.inr trivial, Or.inr trivial, Or.inr rfl, Or.inr (fun _ => rfl), Or.inr trivial, Or.inr trivial, Or.inr trivial, Or.inr trivial, Or.inr trivial, Or.inr trivial, Or.inr trivial, Or.inr trivial, Or.inr trivial, Or.inr trivial, Or.inr trivial, Or.inl rfl, Or.inl rfl, trivial⟩, rfl, rfl, rfl, Nat.le_of_ble_eq_true rfl⟩ rfl zC5 rfl rfl dX1_falls_35 (fun r_35 w_35 hp => ?_) (fun _ _ h => h.elim)
      obtain ⟨rfl, rfl⟩ := hp
      refine z_weq (w' := [zPl _ _, zO _ [zr _ _, zr _ _, zr _ _, zr _ _, zr _ _, zi _, zi _, zr _ _, zr _ _], zH, zO _ [zr _ _, zi _, zi _, zi _], zAi 0 24 _, zH, zH, zH, zH, zO _ [zi _, zr _ _, zi _], zAr _ 10 _, zH, zH, zH, zH, zH, zH, zH, zH, zH, zH, zH, zO _ [zi _, zi _, zr _ _], zAi 0 24 _, zAi 0 (prs n f).length _]) rfl ?_
      refine z_seq (S' := zr _ _ :: _) rfl ?_
      refine z_astore F dX1_falls_38 (Nat.le_of_ble_eq_true rfl) ?_
      refine z_leq (L' := [_, _, _, _, _, _, _, _, _, _, _, _, _]) rfl ?_
      refine z_iload_n F dX1_falls_40 rfl ?_
      refine z_if_neN F (by omega) (tgt := 50) dX1_falls_41 (by decide) (fun c_41 => ?_) (fun c_41 => ?_)
      · refine z_aload F dX1_falls_50 rfl ?_
        refine z_getN F zC5 (f := 0) rfl (Nat.le_of_ble_eq_true rfl) q245 rfl dX1_falls_52 ?_
        refine z_loc _ ?_ (at55 _ (by rw [flN, if_neg (by omega)]))
        exact ⟨rfl, rfl, rfl, rfl, rfl, trivial⟩
      · refine z_aload F dX1_falls_44 rfl ?_
        refine z_alenN F (fun _ => rfl) rfl dX1_falls_46 ?_
        refine z_goto F (tgt := 55) dX1_falls_47 (by decide) ?_
        refine z_loc _ ?_ (at55 _ (by rw [flN, if_pos (by omega)]))
        exact ⟨rfl, rfl, rfl, rfl, rfl, trivial⟩
theorem c_pfalls_badK (P : zPt) (t : Nat) (fp : Int32) (j n d : Nat) (f : Nat → Int32) (kind many : Int32) (hj : j < 8) (h : nok n d f) (hP : P j = some (nI n, nI d, f)) (hk : ¬ kind = nI 0 ∧ ¬ kind = nI 1) : zCtr yX1_falls cX1_falls 13 (some .int) 8 8 160 [zr 1 0, zi (nI j), zi kind, zi many] (xH P t fp) (fun r v => False) (fun E w => E = eNSE ∧ True ∧ w = xH P t fp) := by
  refine z_start (by decide) [some (zr 1 0), some (zi (nI j)), some (zi kind), some (zi many), none, none, none, none, none, none, none, none, none] rfl (fun _ => Nat.le_of_ble_eq_true rfl) (fun _ => rfl) (fun X F E hno hin => ?_)
  refine z_aload_n F dX1_falls_0 rfl ?_
  refine z_iload_n F dX1_falls_1 rfl ?_
  refine z_callV F (c_netAt_ok P t fp j hj hP) 1 rfl (lw_V q429 q431 qs0 q109 q432) (by decide +kernel) ⟨Nat.le_of_ble_eq_true rfl, Nat.le_of_ble_eq_true rfl⟩ ⟨by omega, by omega⟩ [0, 1, 2, 3, 4, 5, 6, 7, 8, 9, 10, 11, 12, 13, 14, 15, 16, 17, 18, 19, 20, 21] 22 ⟨rfl, rfl, rfl, ⟨Or.inr (congrArg some (zrnP rfl).symm), Or.inr rfl, Or.inl rfl, Or.inl rfl, Or.inl rfl, Or.inl rfl, Or.inl rfl, Or.inl rfl, Or.inl rfl, Or.inl rfl, Or.inl rfl, Or.inl rfl, Or.inl rfl, Or.inl rfl, Or.inl rfl, Or.inl rfl, Or.inl rfl, Or.inl rfl, Or.inl rfl, Or.inl rfl, Or.inl rfl, Or.inl rfl, trivial⟩⟩ (fun _ => rfl) (Nat.le_of_ble_eq_true rfl) ⟨⟨Or.inl rfl, Or.inl rfl, Or.inr trivial, Or.inr trivial, Or.inr trivial, Or.inr trivial, Or.inr trivial, Or.inr trivial, Or.inr trivial, Or.inr trivial, Or.inr trivial, Or.inr trivial, Or.inr trivial, Or.inr trivial, Or.inr trivial, Or.inr trivial, Or.inr trivial, Or.inr trivial, Or.inr trivial, Or.inr trivial, Or.inr trivial, Or.inr trivial, trivial⟩, rfl, rfl, rfl, Nat.le_of_ble_eq_true rfl⟩ rfl zC1 rfl rfl dX1_falls_2 (fun r_2 w_2 hp => ?_) (fun _ _ h => h.elim)
  obtain ⟨rfl, rfl⟩ := hp
  refine z_weq (w' := zPl (pR _) _ :: _) (congrArg (fun z => z :: _) (zrnP rfl)) ?_
  refine z_weq (w' := [zPl _ _, zO _ [zr _ _, zr _ _, zr _ _, zr _ _, zr _ _, zi _, zi _, zr _ _, zr _ _], zH, zH, zH, zH, zH, zH, zH, zH, zH, zH, zH, zH, zH, zH, zH, zH, zH, zH, zH, zH]) rfl ?_
  refine z_seq (S' := zr _ _ :: _) rfl ?_
  refine z_astore F dX1_falls_5 (Nat.le_of_ble_eq_true rfl) ?_
  refine z_leq (L' := [_, _, _, _, _, _, _, _, _, _, _, _, _]) rfl ?_
  refine z_foc F j hj hP (N := 22) (M := 23) (L' := [_, _, _, _, some (zr 22 0), _, _, _, _, _, _, _, _]) (S' := []) rfl rfl (Nat.le_of_ble_eq_true rfl) ⟨rfl, trivial, trivial, trivial, trivial, trivial, trivial, trivial, trivial, trivial, trivial, trivial, trivial, trivial, trivial, trivial, trivial, trivial, trivial, trivial, trivial, trivial⟩ ⟨Or.inl rfl, Or.inl rfl, Or.inl rfl, Or.inl rfl, Or.inr ⟨rfl, rfl⟩, Or.inl rfl, Or.inl rfl, Or.inl rfl, Or.inl rfl, Or.inl rfl, Or.inl rfl, Or.inl rfl, Or.inl rfl, trivial⟩ rfl trivial rfl ?_
  refine z_weq (w' := [zPl _ _, zO _ [zr _ _, zr _ _, zr _ _, zr _ _, zr _ _, zi _, zi _, zr _ _, zr _ _], zH, zH, zH, zH, zH, zH, zH, zH, zH, zH, zH, zH, zH, zH, zH, zH, zH, zH, zH, zH, zO _ [zi _, zi _, zr _ _], zAi 0 24 _]) rfl ?_
  refine z_iload_n F dX1_falls_7 rfl ?_
  refine z_if_eq F (tgt := 16) dX1_falls_8 (by decide) (fun c_8 => ?_) (fun c_8 => ?_)
  · exact absurd c_8 hk.1
  · refine z_iload_n F dX1_falls_11 rfl ?_
    refine z_iconst F (nI 1) dX1_falls_12 rfl ?_
    refine z_icmp_ne F (tgt := 20) dX1_falls_13 (by decide) (fun c_13 => ?_) (fun c_13 => ?_)
    · refine z_iconstB F false dX1_falls_20 rfl ?_
      refine z_callS F (c_fnd false) 1 rfl (lw_S q433 q434 q109 q435) (by decide +kernel) ⟨Nat.le_of_ble_eq_true rfl, Nat.le_of_ble_eq_true rfl⟩ ⟨by omega, by omega⟩ [0] 24 ⟨rfl, rfl, rfl, ⟨Or.inl rfl, trivial⟩⟩ (fun h => nomatch h) (Nat.le_of_ble_eq_true rfl) ⟨⟨Or.inr (by first | exact ⟨rfl, pR_B _ (by decide)⟩ | exact ⟨rfl, uR_B (by decide) (by decide)⟩), Or.inr rfl, Or.inr trivial, Or.inr trivial, Or.inr trivial, Or.inr trivial, Or.inr trivial, Or.inr trivial, Or.inr trivial, Or.inr trivial, Or.inr trivial, Or.inr trivial, Or.inr trivial, Or.inr trivial, Or.inr trivial, Or.inr trivial, Or.inr trivial, Or.inr trivial, Or.inr trivial, Or.inr trivial, Or.inr trivial, Or.inr trivial, Or.inr rfl, Or.inr trivial, trivial⟩, rfl, rfl, rfl, Nat.le_of_ble_eq_true rfl⟩ rfl rfl dX1_falls_21 (fun r_21 w_21 hp => ?_) (fun E_ w_ hx => by obtain ⟨rfl, hb, rfl⟩ := hx; exact zx_pub F rfl E hno j 22 23 hj hP rfl rfl (Nat.le_of_ble_eq_true rfl) (Nat.le_of_ble_eq_true rfl) (Nat.le_of_ble_eq_true rfl) _ rfl ⟨rfl, trivial, trivial, trivial, trivial, trivial, trivial, trivial, trivial, trivial, trivial, trivial, trivial, trivial, trivial, trivial, trivial, trivial, trivial, trivial, trivial, trivial⟩ (Nat.le_of_ble_eq_true rfl) (by omega) (by omega) (⟨rfl, trivial, rfl⟩))
      exact nomatch hp.2.1
    · exact absurd c_13 hk.2
theorem c_pfalls_badM (P : zPt) (t : Nat) (fp : Int32) (j n d kind : Nat) (f : Nat → Int32) (many : Int32) (hj : j < 8) (h : nok n d f) (hP : P j = some (nI n, nI d, f)) (hk : kind < 2) (hx : inB many (nI 0) (nI 2) = false) : zCtr yX1_falls cX1_falls 13 (some .int) 8 8 160 [zr 1 0, zi (nI j), zi (nI kind), zi many] (xH P t fp) (fun r v => False) (fun E w => E = eIAE ∧ True ∧ w = xH P t fp) := by
  refine z_start (by decide) [some (zr 1 0), some (zi (nI j)), some (zi (nI kind)), some (zi many), none, none, none, none, none, none, none, none, none] rfl (fun _ => Nat.le_of_ble_eq_true rfl) (fun _ => rfl) (fun X F E hno hin => ?_)
  refine z_aload_n F dX1_falls_0 rfl ?_
  refine z_iload_n F dX1_falls_1 rfl ?_
  refine z_callV F (c_netAt_ok P t fp j hj hP) 1 rfl (lw_V q429 q431 qs0 q109 q432) (by decide +kernel) ⟨Nat.le_of_ble_eq_true rfl, Nat.le_of_ble_eq_true rfl⟩ ⟨by omega, by omega⟩ [0, 1, 2, 3, 4, 5, 6, 7, 8, 9, 10, 11, 12, 13, 14, 15, 16, 17, 18, 19, 20, 21] 22 ⟨rfl, rfl, rfl, ⟨Or.inr (congrArg some (zrnP rfl).symm), Or.inr rfl, Or.inl rfl, Or.inl rfl, Or.inl rfl, Or.inl rfl, Or.inl rfl, Or.inl rfl, Or.inl rfl, Or.inl rfl, Or.inl rfl, Or.inl rfl, Or.inl rfl, Or.inl rfl, Or.inl rfl, Or.inl rfl, Or.inl rfl, Or.inl rfl, Or.inl rfl, Or.inl rfl, Or.inl rfl, Or.inl rfl, trivial⟩⟩ (fun _ => rfl) (Nat.le_of_ble_eq_true rfl) ⟨⟨Or.inl rfl, Or.inl rfl, Or.inr trivial, Or.inr trivial, Or.inr trivial, Or.inr trivial, Or.inr trivial, Or.inr trivial, Or.inr trivial, Or.inr trivial, Or.inr trivial, Or.inr trivial, Or.inr trivial, Or.inr trivial, Or.inr trivial, Or.inr trivial, Or.inr trivial, Or.inr trivial, Or.inr trivial, Or.inr trivial, Or.inr trivial, Or.inr trivial, trivial⟩, rfl, rfl, rfl, Nat.le_of_ble_eq_true rfl⟩ rfl zC1 rfl rfl dX1_falls_2 (fun r_2 w_2 hp => ?_) (fun _ _ h => h.elim)
  obtain ⟨rfl, rfl⟩ := hp
  refine z_weq (w' := zPl (pR _) _ :: _) (congrArg (fun z => z :: _) (zrnP rfl)) ?_
  refine z_weq (w' := [zPl _ _, zO _ [zr _ _, zr _ _, zr _ _, zr _ _, zr _ _, zi _, zi _, zr _ _, zr _ _], zH, zH, zH, zH, zH, zH, zH, zH, zH, zH, zH, zH, zH, zH, zH, zH, zH, zH, zH, zH]) rfl ?_
  refine z_seq (S' := zr _ _ :: _) rfl ?_
  refine z_astore F dX1_falls_5 (Nat.le_of_ble_eq_true rfl) ?_
  refine z_leq (L' := [_, _, _, _, _, _, _, _, _, _, _, _, _]) rfl ?_
  refine z_foc F j hj hP (N := 22) (M := 23) (L' := [_, _, _, _, some (zr 22 0), _, _, _, _, _, _, _, _]) (S' := []) rfl rfl (Nat.le_of_ble_eq_true rfl) ⟨rfl, trivial, trivial, trivial, trivial, trivial, trivial, trivial, trivial, trivial, trivial, trivial, trivial, trivial, trivial, trivial, trivial, trivial, trivial, trivial, trivial, trivial⟩ ⟨Or.inl rfl, Or.inl rfl, Or.inl rfl, Or.inl rfl, Or.inr ⟨rfl, rfl⟩, Or.inl rfl, Or.inl rfl, Or.inl rfl, Or.inl rfl, Or.inl rfl, Or.inl rfl, Or.inl rfl, Or.inl rfl, trivial⟩ rfl trivial rfl ?_
  refine z_weq (w' := [zPl _ _, zO _ [zr _ _, zr _ _, zr _ _, zr _ _, zr _ _, zi _, zi _, zr _ _, zr _ _], zH, zH, zH, zH, zH, zH, zH, zH, zH, zH, zH, zH, zH, zH, zH, zH, zH, zH, zH, zH, zO _ [zi _, zi _, zr _ _], zAi 0 24 _]) rfl ?_
  refine z_iload_n F dX1_falls_7 rfl ?_
  refine z_if_eqN F (by omega) (tgt := 16) dX1_falls_8 (by decide) (fun c_8 => ?_) (fun c_8 => ?_)
  · refine z_iconstB F true dX1_falls_16 rfl ?_
    refine z_goto F (tgt := 21) dX1_falls_17 (by decide) ?_
    refine z_callS F (c_fnd true) 1 rfl (lw_S q433 q434 q109 q435) (by decide +kernel) ⟨Nat.le_of_ble_eq_true rfl, Nat.le_of_ble_eq_true rfl⟩ ⟨by omega, by omega⟩ [0] 24 ⟨rfl, rfl, rfl, ⟨Or.inl rfl, trivial⟩⟩ (fun h => nomatch h) (Nat.le_of_ble_eq_true rfl) ⟨⟨Or.inr (by first | exact ⟨rfl, pR_B _ (by decide)⟩ | exact ⟨rfl, uR_B (by decide) (by decide)⟩), Or.inr rfl, Or.inr trivial, Or.inr trivial, Or.inr trivial, Or.inr trivial, Or.inr trivial, Or.inr trivial, Or.inr trivial, Or.inr trivial, Or.inr trivial, Or.inr trivial, Or.inr trivial, Or.inr trivial, Or.inr trivial, Or.inr trivial, Or.inr trivial, Or.inr trivial, Or.inr trivial, Or.inr trivial, Or.inr trivial, Or.inr trivial, Or.inr rfl, Or.inr trivial, trivial⟩, rfl, rfl, rfl, Nat.le_of_ble_eq_true rfl⟩ rfl rfl dX1_falls_21 (fun r_21 w_21 hp => ?_) (fun E_ w_ hx => by obtain ⟨-, hb, -⟩ := hx; cases hb)
    obtain ⟨rfl, -, rfl⟩ := hp
    refine z_weq (w' := [zPl _ _, zO _ [zr _ _, zr _ _, zr _ _, zr _ _, zr _ _, zi _, zi _, zr _ _, zr _ _], zH, zH, zH, zH, zH, zH, zH, zH, zH, zH, zH, zH, zH, zH, zH, zH, zH, zH, zH, zH, zO _ [zi _, zi _, zr _ _], zAi 0 24 _]) rfl ?_
    refine z_seq (S' := []) rfl ?_
    refine z_iload_n F dX1_falls_24 rfl ?_
    refine z_iconst F (nI 0) dX1_falls_25 rfl ?_
    refine z_iconst F (nI 2) dX1_falls_26 rfl ?_
    refine z_callS F (c_in many (nI 0) (nI 2)) 3 rfl (lw_S q349 q350 q109 q351) (by decide +kernel) ⟨Nat.le_of_ble_eq_true rfl, Nat.le_of_ble_eq_true rfl⟩ ⟨by omega, by omega⟩ [0] 24 ⟨rfl, rfl, rfl, ⟨Or.inl rfl, trivial⟩⟩ (fun h => nomatch h) (Nat.le_of_ble_eq_true rfl) ⟨⟨Or.inr (by first | exact ⟨rfl, pR_B _ (by decide)⟩ | exact ⟨rfl, uR_B (by decide) (by decide)⟩), Or.inr rfl, Or.inr trivial, Or.inr trivial, Or.inr trivial, Or.inr trivial, Or.inr trivial, Or.inr trivial, Or.inr trivial, Or.inr trivial, Or.inr trivial, Or.inr trivial, Or.inr trivial, Or.inr trivial, Or.inr trivial, Or.inr trivial, Or.inr trivial, Or.inr trivial, Or.inr trivial, Or.inr trivial, Or.inr trivial, Or.inr trivial, Or.inr rfl, Or.inr trivial, trivial⟩, rfl, rfl, rfl, Nat.le_of_ble_eq_true rfl⟩ rfl rfl dX1_falls_27 (fun r_27 w_27 hp => ?_) (fun _ _ h => h.elim)
    obtain ⟨rfl, rfl⟩ := hp
    refine z_weq (w' := [zPl _ _, zO _ [zr _ _, zr _ _, zr _ _, zr _ _, zr _ _, zi _, zi _, zr _ _, zr _ _], zH, zH, zH, zH, zH, zH, zH, zH, zH, zH, zH, zH, zH, zH, zH, zH, zH, zH, zH, zH, zO _ [zi _, zi _, zr _ _], zAi 0 24 _]) rfl ?_
    refine z_seq (S' := zi _ :: _) rfl ?_
    rw [hx]
    refine z_callS F (c_rgt false) 1 rfl (lw_S q538 q539 q109 q540) (by decide +kernel) ⟨Nat.le_of_ble_eq_true rfl, Nat.le_of_ble_eq_true rfl⟩ ⟨by omega, by omega⟩ [0] 24 ⟨rfl, rfl, rfl, ⟨Or.inl rfl, trivial⟩⟩ (fun h => nomatch h) (Nat.le_of_ble_eq_true rfl) ⟨⟨Or.inr (by first | exact ⟨rfl, pR_B _ (by decide)⟩ | exact ⟨rfl, uR_B (by decide) (by decide)⟩), Or.inr rfl, Or.inr trivial, Or.inr trivial, Or.inr trivial, Or.inr trivial, Or.inr trivial, Or.inr trivial, Or.inr trivial, Or.inr trivial, Or.inr trivial, Or.inr trivial, Or.inr trivial, Or.inr trivial, Or.inr trivial, Or.inr trivial, Or.inr trivial, Or.inr trivial, Or.inr trivial, Or.inr trivial, Or.inr trivial, Or.inr trivial, Or.inr rfl, Or.inr trivial, trivial⟩, rfl, rfl, rfl, Nat.le_of_ble_eq_true rfl⟩ rfl rfl dX1_falls_30 (fun r_30 w_30 hp => ?_) (fun E_ w_ hx => by obtain ⟨rfl, hb, rfl⟩ := hx; exact zx_pub F rfl E hno j 22 23 hj hP rfl rfl (Nat.le_of_ble_eq_true rfl) (Nat.le_of_ble_eq_true rfl) (Nat.le_of_ble_eq_true rfl) _ rfl ⟨rfl, trivial, trivial, trivial, trivial, trivial, trivial, trivial, trivial, trivial, trivial, trivial, trivial, trivial, trivial, trivial, trivial, trivial, trivial, trivial, trivial, trivial⟩ (Nat.le_of_ble_eq_true rfl) (by omega) (by omega) (⟨rfl, trivial, rfl⟩))
    exact nomatch hp.2.1
  · refine z_iload_n F dX1_falls_11 rfl ?_
    refine z_iconst F (nI 1) dX1_falls_12 rfl ?_
    refine z_icmp_neN F (by omega) (by omega) (tgt := 20) dX1_falls_13 (by decide) (fun c_13 => ?_) (fun c_13 => ?_)
    · exact absurd c_13 (by omega)
    · refine z_iconstB F true dX1_falls_16 rfl ?_
      refine z_goto F (tgt := 21) dX1_falls_17 (by decide) ?_
      refine z_callS F (c_fnd true) 1 rfl (lw_S q433 q434 q109 q435) (by decide +kernel) ⟨Nat.le_of_ble_eq_true rfl, Nat.le_of_ble_eq_true rfl⟩ ⟨by omega, by omega⟩ [0] 24 ⟨rfl, rfl, rfl, ⟨Or.inl rfl, trivial⟩⟩ (fun h => nomatch h) (Nat.le_of_ble_eq_true rfl) ⟨⟨Or.inr (by first | exact ⟨rfl, pR_B _ (by decide)⟩ | exact ⟨rfl, uR_B (by decide) (by decide)⟩), Or.inr rfl, Or.inr trivial, Or.inr trivial, Or.inr trivial, Or.inr trivial, Or.inr trivial, Or.inr trivial, Or.inr trivial, Or.inr trivial, Or.inr trivial, Or.inr trivial, Or.inr trivial, Or.inr trivial, Or.inr trivial, Or.inr trivial, Or.inr trivial, Or.inr trivial, Or.inr trivial, Or.inr trivial, Or.inr trivial, Or.inr trivial, Or.inr rfl, Or.inr trivial, trivial⟩, rfl, rfl, rfl, Nat.le_of_ble_eq_true rfl⟩ rfl rfl dX1_falls_21 (fun r_21 w_21 hp => ?_) (fun E_ w_ hx => by obtain ⟨-, hb, -⟩ := hx; cases hb)
      obtain ⟨rfl, -, rfl⟩ := hp
      refine z_weq (w' := [zPl _ _, zO _ [zr _ _, zr _ _, zr _ _, zr _ _, zr _ _, zi _, zi _, zr _ _, zr _ _], zH, zH, zH, zH, zH, zH, zH, zH, zH, zH, zH, zH, zH, zH, zH, zH, zH, zH, zH, zH, zO _ [zi _, zi _, zr _ _], zAi 0 24 _]) rfl ?_
      refine z_seq (S' := []) rfl ?_
      refine z_iload_n F dX1_falls_24 rfl ?_
      refine z_iconst F (nI 0) dX1_falls_25 rfl ?_
      refine z_iconst F (nI 2) dX1_falls_26 rfl ?_
      refine z_callS F (c_in many (nI 0) (nI 2)) 3 rfl (lw_S q349 q350 q109 q351) (by decide +kernel) ⟨Nat.le_of_ble_eq_true rfl, Nat.le_of_ble_eq_true rfl⟩ ⟨by omega, by omega⟩ [0] 24 ⟨rfl, rfl, rfl, ⟨Or.inl rfl, trivial⟩⟩ (fun h => nomatch h) (Nat.le_of_ble_eq_true rfl) ⟨⟨Or.inr (by first | exact ⟨rfl, pR_B _ (by decide)⟩ | exact ⟨rfl, uR_B (by decide) (by decide)⟩), Or.inr rfl, Or.inr trivial, Or.inr trivial, Or.inr trivial, Or.inr trivial, Or.inr trivial, Or.inr trivial, Or.inr trivial, Or.inr trivial, Or.inr trivial, Or.inr trivial, Or.inr trivial, Or.inr trivial, Or.inr trivial, Or.inr trivial, Or.inr trivial, Or.inr trivial, Or.inr trivial, Or.inr trivial, Or.inr trivial, Or.inr trivial, Or.inr rfl, Or.inr trivial, trivial⟩, rfl, rfl, rfl, Nat.le_of_ble_eq_true rfl⟩ rfl rfl dX1_falls_27 (fun r_27 w_27 hp => ?_) (fun _ _ h => h.elim)
      obtain ⟨rfl, rfl⟩ := hp
      refine z_weq (w' := [zPl _ _, zO _ [zr _ _, zr _ _, zr _ _, zr _ _, zr _ _, zi _, zi _, zr _ _, zr _ _], zH, zH, zH, zH, zH, zH, zH, zH, zH, zH, zH, zH, zH, zH, zH, zH, zH, zH, zH, zH, zO _ [zi _, zi _, zr _ _], zAi 0 24 _]) rfl ?_
      refine z_seq (S' := zi _ :: _) rfl ?_
      rw [hx]
      refine z_callS F (c_rgt false) 1 rfl (lw_S q538 q539 q109 q540) (by decide +kernel) ⟨Nat.le_of_ble_eq_true rfl, Nat.le_of_ble_eq_true rfl⟩ ⟨by omega, by omega⟩ [0] 24 ⟨rfl, rfl, rfl, ⟨Or.inl rfl, trivial⟩⟩ (fun h => nomatch h) (Nat.le_of_ble_eq_true rfl) ⟨⟨Or.inr (by first | exact ⟨rfl, pR_B _ (by decide)⟩ | exact ⟨rfl, uR_B (by decide) (by decide)⟩), Or.inr rfl, Or.inr trivial, Or.inr trivial, Or.inr trivial, Or.inr trivial, Or.inr trivial, Or.inr trivial, Or.inr trivial, Or.inr trivial, Or.inr trivial, Or.inr trivial, Or.inr trivial, Or.inr trivial, Or.inr trivial, Or.inr trivial, Or.inr trivial, Or.inr trivial, Or.inr trivial, Or.inr trivial, Or.inr trivial, Or.inr trivial, Or.inr rfl, Or.inr trivial, trivial⟩, rfl, rfl, rfl, Nat.le_of_ble_eq_true rfl⟩ rfl rfl dX1_falls_30 (fun r_30 w_30 hp => ?_) (fun E_ w_ hx => by obtain ⟨rfl, hb, rfl⟩ := hx; exact zx_pub F rfl E hno j 22 23 hj hP rfl rfl (Nat.le_of_ble_eq_true rfl) (Nat.le_of_ble_eq_true rfl) (Nat.le_of_ble_eq_true rfl) _ rfl ⟨rfl, trivial, trivial, trivial, trivial, trivial, trivial, trivial, trivial, trivial, trivial, trivial, trivial, trivial, trivial, trivial, trivial, trivial, trivial, trivial, trivial, trivial⟩ (Nat.le_of_ble_eq_true rfl) (by omega) (by omega) (⟨rfl, trivial, rfl⟩))
      exact nomatch hp.2.1
abbrev xLs (P : zPt) (t : Nat) (fp : Int32) (e9 e10 : zE) : List zE := [zPl (pR P) P, xO t fp, zH, zH, zH, zH, zH, zH, zH, e9, e10, zH, zH, zH, zH, zH, zH, zH, zH, zH, zH, zH]
theorem c_pfallen (Dg : va_G) (P : zPt) (t : Nat) (fp : Int32) (m0 : Int32) (c i x : Nat) (g : Nat → Value) (hi : i < c) (hc : c ≤ 2) (hx : x < 128) (hg : g i = .ref (Dg.2 1000 (x + 128))) : zCtrD Dg yX1_fallen cX1_fallen 2 (some .int) 8 1 6 [zr 1 0, zi (nI i)] (xLs P t fp (eLs m0 c (zr 10 0)) (zAv 10 g)) (fun r w => r = some (zi (nI x)) ∧ w = xLs P t fp (eLs m0 c (zr 10 0)) (zAv 10 g)) zNx := by
  refine z_startD (by decide) [some (zr 1 0), some (zi (nI i))] rfl (fun _ => Nat.le_of_ble_eq_true rfl) (fun _ => rfl) (fun X hD F E hno hin => ?_)
  subst hD
  refine z_iload_n F dX1_fallen_0 rfl ?_
  refine z_iconst F (nI 0) dX1_fallen_1 rfl ?_
  refine z_aload_n F dX1_fallen_2 rfl ?_
  refine z_get F zC1 (f := 4) rfl (Nat.le_of_ble_eq_true rfl) q318 rfl dX1_fallen_3 ?_
  refine z_callF F (c_Jsize _ m0 c (zr 2 0)) 0 rfl (lw_F q1181 q1186 q1184 q114 q1188) (zF3 F) (by decide +kernel) ⟨Nat.le_of_ble_eq_true rfl, Nat.le_of_ble_eq_true rfl⟩ ⟨by omega, by omega⟩ [0, 9, 10] 22 ⟨rfl, rfl, rfl, ⟨Or.inl rfl, Or.inr rfl, Or.inl rfl, trivial⟩⟩ (fun h => nomatch h) (Nat.le_of_ble_eq_true rfl) ⟨⟨Or.inr (by first | exact ⟨rfl, pR_B _ (by decide)⟩ | exact ⟨rfl, uR_B (by decide) (by decide)⟩), Or.inr rfl, Or.inr trivial, Or.inr trivial, Or.inr trivial, Or.inr trivial, Or.inr trivial, Or.inr trivial, Or.inr trivial, Or.inl rfl, Or.inr (fun _ => rfl), Or.inr trivial, Or.inr trivial, Or.inr trivial, Or.inr trivial, Or.inr trivial, Or.inr trivial, Or.inr trivial, Or.inr trivial, Or.inr trivial, Or.inr trivial, Or.inr trivial, trivial⟩, rfl, rfl, rfl, Nat.le_of_ble_eq_true rfl⟩ rfl rfl rfl dX1_fallen_6 (fun r_6 w_6 hp => ?_) (fun _ _ h => h.elim)
  obtain ⟨rfl, rfl⟩ := hp
  refine z_weq (w' := [zPl _ _, zO _ [zr _ _, zr _ _, zr _ _, zr _ _, zr _ _, zi _, zi _, zr _ _, zr _ _], zH, zH, zH, zH, zH, zH, zH, zO _ [zi _, zr _ _, zi _], zAr _ 10 _, zH, zH, zH, zH, zH, zH, zH, zH, zH, zH, zH]) rfl ?_
  refine z_seq (S' := zi _ :: _) rfl ?_
  refine z_iconst F (nI 1) dX1_fallen_11 rfl ?_
  refine z_isub F dX1_fallen_12 ?_
  refine z_callS F (c_in (nI i) (nI 0) (nI c - nI 1)) 3 rfl (lw_S q349 q350 q109 q351) (by decide +kernel) ⟨Nat.le_of_ble_eq_true rfl, Nat.le_of_ble_eq_true rfl⟩ ⟨by omega, by omega⟩ [0] 22 ⟨rfl, rfl, rfl, ⟨Or.inl rfl, trivial⟩⟩ (fun h => nomatch h) (Nat.le_of_ble_eq_true rfl) ⟨⟨Or.inr (by first | exact ⟨rfl, pR_B _ (by decide)⟩ | exact ⟨rfl, uR_B (by decide) (by decide)⟩), Or.inr rfl, Or.inr trivial, Or.inr trivial, Or.inr trivial, Or.inr trivial, Or.inr trivial, Or.inr trivial, Or.inr trivial, Or.inr rfl, Or.inr (fun _ => rfl), Or.inr trivial, Or.inr trivial, Or.inr trivial, Or.inr trivial, Or.inr trivial, Or.inr trivial, Or.inr trivial, Or.inr trivial, Or.inr trivial, Or.inr trivial, Or.inr trivial, trivial⟩, rfl, rfl, rfl, Nat.le_of_ble_eq_true rfl⟩ rfl rfl dX1_fallen_13 (fun r_13 w_13 hp => ?_) (fun _ _ h => h.elim)
  obtain ⟨rfl, rfl⟩ := hp
  refine z_weq (w' := [zPl _ _, zO _ [zr _ _, zr _ _, zr _ _, zr _ _, zr _ _, zi _, zi _, zr _ _, zr _ _], zH, zH, zH, zH, zH, zH, zH, zO _ [zi _, zr _ _, zi _], zAr _ 10 _, zH, zH, zH, zH, zH, zH, zH, zH, zH, zH, zH]) rfl ?_
  refine z_seq (S' := zi _ :: _) rfl ?_
  rw [show inB (nI i) (nI 0) (nI c - nI 1) = true from inB_len2 (by omega) hi]
  refine z_callS F (c_fnd true) 1 rfl (lw_S q433 q434 q109 q435) (by decide +kernel) ⟨Nat.le_of_ble_eq_true rfl, Nat.le_of_ble_eq_true rfl⟩ ⟨by omega, by omega⟩ [0] 22 ⟨rfl, rfl, rfl, ⟨Or.inl rfl, trivial⟩⟩ (fun h => nomatch h) (Nat.le_of_ble_eq_true rfl) ⟨⟨Or.inr (by first | exact ⟨rfl, pR_B _ (by decide)⟩ | exact ⟨rfl, uR_B (by decide) (by decide)⟩), Or.inr rfl, Or.inr trivial, Or.inr trivial, Or.inr trivial, Or.inr trivial, Or.inr trivial, Or.inr trivial, Or.inr trivial, Or.inr rfl, Or.inr (fun _ => rfl), Or.inr trivial, Or.inr trivial, Or.inr trivial, Or.inr trivial, Or.inr trivial, Or.inr trivial, Or.inr trivial, Or.inr trivial, Or.inr trivial, Or.inr trivial, Or.inr trivial, trivial⟩, rfl, rfl, rfl, Nat.le_of_ble_eq_true rfl⟩ rfl rfl dX1_fallen_16 (fun r_16 w_16 hp => ?_) (fun E_ w_ hx => by obtain ⟨-, hb, -⟩ := hx; cases hb)
  obtain ⟨rfl, -, rfl⟩ := hp
  refine z_weq (w' := [zPl _ _, zO _ [zr _ _, zr _ _, zr _ _, zr _ _, zr _ _, zi _, zi _, zr _ _, zr _ _], zH, zH, zH, zH, zH, zH, zH, zO _ [zi _, zr _ _, zi _], zAr _ 10 _, zH, zH, zH, zH, zH, zH, zH, zH, zH, zH, zH]) rfl ?_
  refine z_seq (S' := []) rfl ?_
  refine z_aload_n F dX1_fallen_19 rfl ?_
  refine z_get F zC1 (f := 4) rfl (Nat.le_of_ble_eq_true rfl) q318 rfl dX1_fallen_20 ?_
  refine z_iload_n F dX1_fallen_23 rfl ?_
  refine z_callF F (c_Jget _ m0 c i _ g hi (by omega) hg) 1 rfl (lw_F q1190 q1195 q1193 q114 q1197) (zF2 F) (by decide +kernel) ⟨Nat.le_of_ble_eq_true rfl, Nat.le_of_ble_eq_true rfl⟩ ⟨by omega, by omega⟩ [0, 9, 10] 22 ⟨rfl, rfl, rfl, ⟨Or.inl rfl, Or.inr rfl, Or.inr rfl, trivial⟩⟩ (fun h => nomatch h) (Nat.le_of_ble_eq_true rfl) ⟨⟨Or.inr (by first | exact ⟨rfl, pR_B _ (by decide)⟩ | exact ⟨rfl, uR_B (by decide) (by decide)⟩), Or.inr rfl, Or.inr trivial, Or.inr trivial, Or.inr trivial, Or.inr trivial, Or.inr trivial, Or.inr trivial, Or.inr trivial, Or.inl rfl, Or.inl rfl, Or.inr trivial, Or.inr trivial, Or.inr trivial, Or.inr trivial, Or.inr trivial, Or.inr trivial, Or.inr trivial, Or.inr trivial, Or.inr trivial, Or.inr trivial, Or.inr trivial, trivial⟩, rfl, rfl, rfl, Nat.le_of_ble_eq_true rfl⟩ rfl rfl rfl dX1_fallen_24 (fun r_24 w_24 hp => ?_) (fun _ _ h => h.elim)
  obtain ⟨rfl, rfl⟩ := hp
  refine z_weq (w' := [zPl _ _, zO _ [zr _ _, zr _ _, zr _ _, zr _ _, zr _ _, zi _, zi _, zr _ _, zr _ _], zH, zH, zH, zH, zH, zH, zH, zO _ [zi _, zr _ _, zi _], zAr _ 10 _, zH, zH, zH, zH, zH, zH, zH, zH, zH, zH, zH]) rfl ?_
  refine z_seq (S' := zq _ :: _) rfl ?_
  refine z_castQ F (F.con.2.2.2.1.1 (x + 128) (by omega)) q1206 dX1_fallen_29 ?_
  refine z_callVR F (c_JintValue _ x hx) 0 rfl (lw_V q1207 q1208 q1209 q123 q1210) (by decide +kernel) ⟨Nat.le_of_ble_eq_true rfl, Nat.le_of_ble_eq_true rfl⟩ ⟨by omega, by omega⟩ [0] 22 ⟨rfl, rfl, rfl, ⟨Or.inl rfl, trivial⟩⟩ (fun h => nomatch h) (Nat.le_of_ble_eq_true rfl) ⟨⟨Or.inr (by first | exact ⟨rfl, pR_B _ (by decide)⟩ | exact ⟨rfl, uR_B (by decide) (by decide)⟩), Or.inr rfl, Or.inr trivial, Or.inr trivial, Or.inr trivial, Or.inr trivial, Or.inr trivial, Or.inr trivial, Or.inr trivial, Or.inr rfl, Or.inr (fun _ => rfl), Or.inr trivial, Or.inr trivial, Or.inr trivial, Or.inr trivial, Or.inr trivial, Or.inr trivial, Or.inr trivial, Or.inr trivial, Or.inr trivial, Or.inr trivial, Or.inr trivial, trivial⟩, rfl, rfl, rfl, Nat.le_of_ble_eq_true rfl⟩ rfl (F.con.2.2.2.1.1 (x + 128) (by omega)) rfl dX1_fallen_32 (fun r_32 w_32 hp => ?_) (fun _ _ h => h.elim)
  obtain ⟨rfl, rfl⟩ := hp
  refine z_weq (w' := [zPl _ _, zO _ [zr _ _, zr _ _, zr _ _, zr _ _, zr _ _, zi _, zi _, zr _ _, zr _ _], zH, zH, zH, zH, zH, zH, zH, zO _ [zi _, zr _ _, zi _], zAr _ 10 _, zH, zH, zH, zH, zH, zH, zH, zH, zH, zH, zH]) rfl ?_
  refine z_seq (S' := zi _ :: _) rfl ?_
  exact z_iret F E rfl dX1_fallen_35 (by omega) (by omega) (⟨rfl, rfl⟩)
theorem inB_lenF {N : Nat} (hN : N < 2 ^ 31) {x : Int32} (h : ∀ i, i < N → ¬ x = nI i) : inB x (nI 0) (nI N - 1) = false := by
  cases hb : inB x (nI 0) (nI N - 1) with
  | false => rfl
  | true =>
    obtain ⟨i, hi, e⟩ := inB_len hN hb
    exact absurd e (h i hi)
theorem c_pfallen_badA (Dg : va_G) (P : zPt) (t : Nat) (fp : Int32) (m0 x : Int32) (a : Nat) : zCtrD Dg yX1_fallen cX1_fallen 2 (some .int) 8 1 6 [zr 1 0, zi x] (xLs P t fp (eLs m0 0 (zq a)) zH) (fun r w => False) (fun E w => E = eNSE ∧ True ∧ w = xLs P t fp (eLs m0 0 (zq a)) zH) := by
  refine z_startD (by decide) [some (zr 1 0), some (zi x)] rfl (fun _ => Nat.le_of_ble_eq_true rfl) (fun _ => rfl) (fun X hD F E hno hin => ?_)
  subst hD
  refine z_iload_n F dX1_fallen_0 rfl ?_
  refine z_iconst F (nI 0) dX1_fallen_1 rfl ?_
  refine z_aload_n F dX1_fallen_2 rfl ?_
  refine z_get F zC1 (f := 4) rfl (Nat.le_of_ble_eq_true rfl) q318 rfl dX1_fallen_3 ?_
  refine z_callF F (c_Jsize _ m0 0 (zq a)) 0 rfl (lw_F q1181 q1186 q1184 q114 q1188) (zF3 F) (by decide +kernel) ⟨Nat.le_of_ble_eq_true rfl, Nat.le_of_ble_eq_true rfl⟩ ⟨by omega, by omega⟩ [0, 9, 10] 22 ⟨rfl, rfl, rfl, ⟨Or.inl rfl, Or.inr rfl, Or.inl rfl, trivial⟩⟩ (fun h => nomatch h) (Nat.le_of_ble_eq_true rfl) ⟨⟨Or.inr (by first | exact ⟨rfl, pR_B _ (by decide)⟩ | exact ⟨rfl, uR_B (by decide) (by decide)⟩), Or.inr rfl, Or.inr trivial, Or.inr trivial, Or.inr trivial, Or.inr trivial, Or.inr trivial, Or.inr trivial, Or.inr trivial, Or.inl rfl, Or.inr trivial, Or.inr trivial, Or.inr trivial, Or.inr trivial, Or.inr trivial, Or.inr trivial, Or.inr trivial, Or.inr trivial, Or.inr trivial, Or.inr trivial, Or.inr trivial, Or.inr trivial, trivial⟩, rfl, rfl, rfl, Nat.le_of_ble_eq_true rfl⟩ rfl rfl rfl dX1_fallen_6 (fun r_6 w_6 hp => ?_) (fun _ _ h => h.elim)
  obtain ⟨rfl, rfl⟩ := hp
  refine z_weq (w' := [zPl _ _, zO _ [zr _ _, zr _ _, zr _ _, zr _ _, zr _ _, zi _, zi _, zr _ _, zr _ _], zH, zH, zH, zH, zH, zH, zH, zO _ [zi _, zq _, zi _], zH, zH, zH, zH, zH, zH, zH, zH, zH, zH, zH, zH]) rfl ?_
  refine z_seq (S' := zi _ :: _) rfl ?_
  refine z_iconst F (nI 1) dX1_fallen_11 rfl ?_
  refine z_isub F dX1_fallen_12 ?_
  refine z_callS F (c_in x (nI 0) (nI 0 - nI 1)) 3 rfl (lw_S q349 q350 q109 q351) (by decide +kernel) ⟨Nat.le_of_ble_eq_true rfl, Nat.le_of_ble_eq_true rfl⟩ ⟨by omega, by omega⟩ [0] 22 ⟨rfl, rfl, rfl, ⟨Or.inl rfl, trivial⟩⟩ (fun h => nomatch h) (Nat.le_of_ble_eq_true rfl) ⟨⟨Or.inr (by first | exact ⟨rfl, pR_B _ (by decide)⟩ | exact ⟨rfl, uR_B (by decide) (by decide)⟩), Or.inr rfl, Or.inr trivial, Or.inr trivial, Or.inr trivial, Or.inr trivial, Or.inr trivial, Or.inr trivial, Or.inr trivial, Or.inr rfl, Or.inr trivial, Or.inr trivial, Or.inr trivial, Or.inr trivial, Or.inr trivial, Or.inr trivial, Or.inr trivial, Or.inr trivial, Or.inr trivial, Or.inr trivial, Or.inr trivial, Or.inr trivial, trivial⟩, rfl, rfl, rfl, Nat.le_of_ble_eq_true rfl⟩ rfl rfl dX1_fallen_13 (fun r_13 w_13 hp => ?_) (fun _ _ h => h.elim)
  obtain ⟨rfl, rfl⟩ := hp
  refine z_weq (w' := [zPl _ _, zO _ [zr _ _, zr _ _, zr _ _, zr _ _, zr _ _, zi _, zi _, zr _ _, zr _ _], zH, zH, zH, zH, zH, zH, zH, zO _ [zi _, zq _, zi _], zH, zH, zH, zH, zH, zH, zH, zH, zH, zH, zH, zH]) rfl ?_
  refine z_seq (S' := zi _ :: _) rfl ?_
  rw [show inB x (nI 0) (nI 0 - nI 1) = false from inB_lenF (by omega) (fun i hi => absurd hi (by omega))]
  refine z_callS F (c_fnd false) 1 rfl (lw_S q433 q434 q109 q435) (by decide +kernel) ⟨Nat.le_of_ble_eq_true rfl, Nat.le_of_ble_eq_true rfl⟩ ⟨by omega, by omega⟩ [0] 22 ⟨rfl, rfl, rfl, ⟨Or.inl rfl, trivial⟩⟩ (fun h => nomatch h) (Nat.le_of_ble_eq_true rfl) ⟨⟨Or.inr (by first | exact ⟨rfl, pR_B _ (by decide)⟩ | exact ⟨rfl, uR_B (by decide) (by decide)⟩), Or.inr rfl, Or.inr trivial, Or.inr trivial, Or.inr trivial, Or.inr trivial, Or.inr trivial, Or.inr trivial, Or.inr trivial, Or.inr rfl, Or.inr trivial, Or.inr trivial, Or.inr trivial, Or.inr trivial, Or.inr trivial, Or.inr trivial, Or.inr trivial, Or.inr trivial, Or.inr trivial, Or.inr trivial, Or.inr trivial, Or.inr trivial, trivial⟩, rfl, rfl, rfl, Nat.le_of_ble_eq_true rfl⟩ rfl rfl dX1_fallen_16 (fun r_16 w_16 hp => ?_) (fun E_ w_ hx => by obtain ⟨rfl, hb, rfl⟩ := hx; exact zx_out F E hno (by omega) (by omega) (⟨rfl, trivial, rfl⟩))
  exact nomatch hp.2.1
theorem c_pfallen_badB (Dg : va_G) (P : zPt) (t : Nat) (fp : Int32) (m0 x : Int32) (c : Nat) (g : Nat → Value) (hc : c ≤ 2) (hx : ∀ i, i < c → ¬ x = nI i) : zCtrD Dg yX1_fallen cX1_fallen 2 (some .int) 8 1 6 [zr 1 0, zi x] (xLs P t fp (eLs m0 c (zr 10 0)) (zAv 10 g)) (fun r w => False) (fun E w => E = eNSE ∧ True ∧ w = xLs P t fp (eLs m0 c (zr 10 0)) (zAv 10 g)) := by
  refine z_startD (by decide) [some (zr 1 0), some (zi x)] rfl (fun _ => Nat.le_of_ble_eq_true rfl) (fun _ => rfl) (fun X hD F E hno hin => ?_)
  subst hD
  refine z_iload_n F dX1_fallen_0 rfl ?_
  refine z_iconst F (nI 0) dX1_fallen_1 rfl ?_
  refine z_aload_n F dX1_fallen_2 rfl ?_
  refine z_get F zC1 (f := 4) rfl (Nat.le_of_ble_eq_true rfl) q318 rfl dX1_fallen_3 ?_
  refine z_callF F (c_Jsize _ m0 c (zr 2 0)) 0 rfl (lw_F q1181 q1186 q1184 q114 q1188) (zF3 F) (by decide +kernel) ⟨Nat.le_of_ble_eq_true rfl, Nat.le_of_ble_eq_true rfl⟩ ⟨by omega, by omega⟩ [0, 9, 10] 22 ⟨rfl, rfl, rfl, ⟨Or.inl rfl, Or.inr rfl, Or.inl rfl, trivial⟩⟩ (fun h => nomatch h) (Nat.le_of_ble_eq_true rfl) ⟨⟨Or.inr (by first | exact ⟨rfl, pR_B _ (by decide)⟩ | exact ⟨rfl, uR_B (by decide) (by decide)⟩), Or.inr rfl, Or.inr trivial, Or.inr trivial, Or.inr trivial, Or.inr trivial, Or.inr trivial, Or.inr trivial, Or.inr trivial, Or.inl rfl, Or.inr (fun _ => rfl), Or.inr trivial, Or.inr trivial, Or.inr trivial, Or.inr trivial, Or.inr trivial, Or.inr trivial, Or.inr trivial, Or.inr trivial, Or.inr trivial, Or.inr trivial, Or.inr trivial, trivial⟩, rfl, rfl, rfl, Nat.le_of_ble_eq_true rfl⟩ rfl rfl rfl dX1_fallen_6 (fun r_6 w_6 hp => ?_) (fun _ _ h => h.elim)
  obtain ⟨rfl, rfl⟩ := hp
  refine z_weq (w' := [zPl _ _, zO _ [zr _ _, zr _ _, zr _ _, zr _ _, zr _ _, zi _, zi _, zr _ _, zr _ _], zH, zH, zH, zH, zH, zH, zH, zO _ [zi _, zr _ _, zi _], zAr _ 10 _, zH, zH, zH, zH, zH, zH, zH, zH, zH, zH, zH]) rfl ?_
  refine z_seq (S' := zi _ :: _) rfl ?_
  refine z_iconst F (nI 1) dX1_fallen_11 rfl ?_
  refine z_isub F dX1_fallen_12 ?_
  refine z_callS F (c_in x (nI 0) (nI c - nI 1)) 3 rfl (lw_S q349 q350 q109 q351) (by decide +kernel) ⟨Nat.le_of_ble_eq_true rfl, Nat.le_of_ble_eq_true rfl⟩ ⟨by omega, by omega⟩ [0] 22 ⟨rfl, rfl, rfl, ⟨Or.inl rfl, trivial⟩⟩ (fun h => nomatch h) (Nat.le_of_ble_eq_true rfl) ⟨⟨Or.inr (by first | exact ⟨rfl, pR_B _ (by decide)⟩ | exact ⟨rfl, uR_B (by decide) (by decide)⟩), Or.inr rfl, Or.inr trivial, Or.inr trivial, Or.inr trivial, Or.inr trivial, Or.inr trivial, Or.inr trivial, Or.inr trivial, Or.inr rfl, Or.inr (fun _ => rfl), Or.inr trivial, Or.inr trivial, Or.inr trivial, Or.inr trivial, Or.inr trivial, Or.inr trivial, Or.inr trivial, Or.inr trivial, Or.inr trivial, Or.inr trivial, Or.inr trivial, trivial⟩, rfl, rfl, rfl, Nat.le_of_ble_eq_true rfl⟩ rfl rfl dX1_fallen_13 (fun r_13 w_13 hp => ?_) (fun _ _ h => h.elim)
  obtain ⟨rfl, rfl⟩ := hp
  refine z_weq (w' := [zPl _ _, zO _ [zr _ _, zr _ _, zr _ _, zr _ _, zr _ _, zi _, zi _, zr _ _, zr _ _], zH, zH, zH, zH, zH, zH, zH, zO _ [zi _, zr _ _, zi _], zAr _ 10 _, zH, zH, zH, zH, zH, zH, zH, zH, zH, zH, zH]) rfl ?_
  refine z_seq (S' := zi _ :: _) rfl ?_
  rw [show inB x (nI 0) (nI c - nI 1) = false from inB_lenF (by omega) hx]
  refine z_callS F (c_fnd false) 1 rfl (lw_S q433 q434 q109 q435) (by decide +kernel) ⟨Nat.le_of_ble_eq_true rfl, Nat.le_of_ble_eq_true rfl⟩ ⟨by omega, by omega⟩ [0] 22 ⟨rfl, rfl, rfl, ⟨Or.inl rfl, trivial⟩⟩ (fun h => nomatch h) (Nat.le_of_ble_eq_true rfl) ⟨⟨Or.inr (by first | exact ⟨rfl, pR_B _ (by decide)⟩ | exact ⟨rfl, uR_B (by decide) (by decide)⟩), Or.inr rfl, Or.inr trivial, Or.inr trivial, Or.inr trivial, Or.inr trivial, Or.inr trivial, Or.inr trivial, Or.inr trivial, Or.inr rfl, Or.inr (fun _ => rfl), Or.inr trivial, Or.inr trivial, Or.inr trivial, Or.inr trivial, Or.inr trivial, Or.inr trivial, Or.inr trivial, Or.inr trivial, Or.inr trivial, Or.inr trivial, Or.inr trivial, trivial⟩, rfl, rfl, rfl, Nat.le_of_ble_eq_true rfl⟩ rfl rfl dX1_fallen_16 (fun r_16 w_16 hp => ?_) (fun E_ w_ hx => by obtain ⟨rfl, hb, rfl⟩ := hx; exact zx_out F E hno (by omega) (by omega) (⟨rfl, trivial, rfl⟩))
  exact nomatch hp.2.1
end C9yr
