/-! two lines changed: WiredNets' and the reference's -/
section C53
theorem c_xchangesG (n d : Int32) (f : Nat → Int32) (a b c0 e0 C1 E1 : Nat) (cr : Bool) (ha : a < 24) (hb : b < 24) (hc : c0 < 24) (he : e0 < 24) (h1 : cr = true → C1 = e0 ∧ E1 = c0) (h2 : cr = false → C1 = c0 ∧ E1 = e0) :
    zCtr yX1_changes cX1_changes 8 (some .boolean) 1 0 0 [zr 1 0, zi (nI (32 * a + b)), zi (nI (32 * c0 + e0)), zi (bI cr)] [zH, eNet 2 n d, zAi 0 24 f] (fun r w => r = some (zi (bI (chok f a b C1 E1))) ∧ w = [zH, eNet 2 n d, zAi 0 24 (if chok f a b C1 E1 then chg f a b C1 E1 else f)]) zNx := by
  refine z_start (by decide) [some (zr 1 0), some (zi (nI (32 * a + b))), some (zi (nI (32 * c0 + e0))), some (zi (bI cr)), none, none, none, none] rfl (fun _ => Nat.le_of_ble_eq_true rfl) (fun _ => rfl) (fun X F E hno hin => ?_)
  refine z_iload_n F dX1_changes_0 rfl ?_
  refine z_iconst F (nI 5) dX1_changes_1 rfl ?_
  refine z_ishr F dX1_changes_2 ?_
  refine z_ieq (pc_hi (by omega) (by omega)) ?_
  refine z_istore F dX1_changes_3 (Nat.le_of_ble_eq_true rfl) ?_
  refine z_leq (L' := [_, _, _, _, _, _, _, _]) rfl ?_
  refine z_iload_n F dX1_changes_5 rfl ?_
  refine z_bipush F (nI 31) dX1_changes_6 rfl ?_
  refine z_iand F dX1_changes_8 ?_
  refine z_ieq (pc_lo (by omega) (by omega)) ?_
  refine z_istore F dX1_changes_9 (Nat.le_of_ble_eq_true rfl) ?_
  refine z_leq (L' := [_, _, _, _, _, _, _, _]) rfl ?_
  refine z_iload_n F dX1_changes_11 rfl ?_
  refine z_if_eqB F (tgt := 22) dX1_changes_12 (by decide) (fun c_12 => ?_) (fun c_12 => ?_)
  · obtain ⟨rfl, rfl⟩ := h2 c_12
    refine z_iload_n F dX1_changes_22 rfl ?_
    refine z_iconst F (nI 5) dX1_changes_23 rfl ?_
    refine z_ishr F dX1_changes_24 ?_
    refine z_ieq (pc_hi (by omega) (by omega)) ?_
    refine z_istore F dX1_changes_25 (Nat.le_of_ble_eq_true rfl) ?_
    refine z_leq (L' := [_, _, _, _, _, _, _, _]) rfl ?_
    refine z_iload_n F dX1_changes_27 rfl ?_
    refine z_if_eqB F (tgt := 37) dX1_changes_28 (by decide) (fun c_28 => ?_) (fun c_28 => ?_)
    · refine z_iload_n F dX1_changes_37 rfl ?_
      refine z_bipush F (nI 31) dX1_changes_38 rfl ?_
      refine z_iand F dX1_changes_40 ?_
      refine z_ieq (pc_lo (by omega) (by omega)) ?_
      refine z_istore F dX1_changes_41 (Nat.le_of_ble_eq_true rfl) ?_
      refine z_leq (L' := [_, _, _, _, _, _, _, _]) rfl ?_
      refine z_iload F dX1_changes_43 rfl ?_
      refine z_iload F dX1_changes_45 rfl ?_
      refine z_icmp_eqN F (by omega) (by omega) (tgt := 93) dX1_changes_47 (by decide) (fun c_47 => ?_) (fun c_47 => ?_)
      · have hk : chok f a b C1 E1 = false := chok_n1 (by first | exact Or.inl c_47 | exact Or.inr (Or.inl c_54) | exact Or.inr (Or.inr (Or.inl c_61)) | exact Or.inr (Or.inr (Or.inr (Or.inl c_68))) | exact Or.inr (Or.inr (Or.inr (Or.inr (Or.inl c_79)))) | exact Or.inr (Or.inr (Or.inr (Or.inr (Or.inr c_90)))))
        refine z_iconstB F false dX1_changes_93 rfl ?_
        exact z_zret F E rfl rfl dX1_changes_94 (by omega) (by omega) (⟨by rw [hk], by rw [hk]; rfl⟩)
      · refine z_iload F dX1_changes_50 rfl ?_
        refine z_iload F dX1_changes_52 rfl ?_
        refine z_icmp_eqN F (by omega) (by omega) (tgt := 93) dX1_changes_54 (by decide) (fun c_54 => ?_) (fun c_54 => ?_)
        · have hk : chok f a b C1 E1 = false := chok_n1 (by first | exact Or.inl c_47 | exact Or.inr (Or.inl c_54) | exact Or.inr (Or.inr (Or.inl c_61)) | exact Or.inr (Or.inr (Or.inr (Or.inl c_68))) | exact Or.inr (Or.inr (Or.inr (Or.inr (Or.inl c_79)))) | exact Or.inr (Or.inr (Or.inr (Or.inr (Or.inr c_90)))))
          refine z_iconstB F false dX1_changes_93 rfl ?_
          exact z_zret F E rfl rfl dX1_changes_94 (by omega) (by omega) (⟨by rw [hk], by rw [hk]; rfl⟩)
        · refine z_iload F dX1_changes_57 rfl ?_
          refine z_iload F dX1_changes_59 rfl ?_
          refine z_icmp_eqN F (by omega) (by omega) (tgt := 93) dX1_changes_61 (by decide) (fun c_61 => ?_) (fun c_61 => ?_)
          · have hk : chok f a b C1 E1 = false := chok_n1 (by first | exact Or.inl c_47 | exact Or.inr (Or.inl c_54) | exact Or.inr (Or.inr (Or.inl c_61)) | exact Or.inr (Or.inr (Or.inr (Or.inl c_68))) | exact Or.inr (Or.inr (Or.inr (Or.inr (Or.inl c_79)))) | exact Or.inr (Or.inr (Or.inr (Or.inr (Or.inr c_90)))))
            refine z_iconstB F false dX1_changes_93 rfl ?_
            exact z_zret F E rfl rfl dX1_changes_94 (by omega) (by omega) (⟨by rw [hk], by rw [hk]; rfl⟩)
          · refine z_iload F dX1_changes_64 rfl ?_
            refine z_iload F dX1_changes_66 rfl ?_
            refine z_icmp_eqN F (by omega) (by omega) (tgt := 93) dX1_changes_68 (by decide) (fun c_68 => ?_) (fun c_68 => ?_)
            · have hk : chok f a b C1 E1 = false := chok_n1 (by first | exact Or.inl c_47 | exact Or.inr (Or.inl c_54) | exact Or.inr (Or.inr (Or.inl c_61)) | exact Or.inr (Or.inr (Or.inr (Or.inl c_68))) | exact Or.inr (Or.inr (Or.inr (Or.inr (Or.inl c_79)))) | exact Or.inr (Or.inr (Or.inr (Or.inr (Or.inr c_90)))))
              refine z_iconstB F false dX1_changes_93 rfl ?_
              exact z_zret F E rfl rfl dX1_changes_94 (by omega) (by omega) (⟨by rw [hk], by rw [hk]; rfl⟩)
            · refine z_aload_n F dX1_changes_71 rfl ?_
              refine z_iload F dX1_changes_72 rfl ?_
              refine z_iload F dX1_changes_74 rfl ?_
              refine z_callV F (c_has n d f a C1 (by omega) (by omega)) 2 rfl (lw_V q524 q508 q509 q116 q510) (by decide +kernel) ⟨Nat.le_of_ble_eq_true rfl, Nat.le_of_ble_eq_true rfl⟩ ⟨by omega, by omega⟩ [0, 1, 2] 3 ⟨rfl, rfl, rfl, ⟨Or.inl rfl, Or.inr rfl, Or.inr rfl, trivial⟩⟩ (fun h => nomatch h) (Nat.le_of_ble_eq_true rfl) ⟨⟨Or.inr trivial, Or.inl rfl, Or.inl rfl, trivial⟩, rfl, rfl, rfl, Nat.le_of_ble_eq_true rfl⟩ rfl zC5 rfl rfl dX1_changes_76 (fun r_76 w_76 hp => ?_) (fun _ _ h => h.elim)
              obtain ⟨rfl, rfl⟩ := hp
              refine z_weq (w' := [zH, zO _ [zi _, zi _, zr _ _], zAi 0 24 _]) rfl ?_
              refine z_seq (S' := zi _ :: _) rfl ?_
              refine z_if_neB F (tgt := 93) dX1_changes_79 (by decide) (fun c_79 => ?_) (fun c_79 => ?_)
              · have hk : chok f a b C1 E1 = false := chok_n1 (by first | exact Or.inl c_47 | exact Or.inr (Or.inl c_54) | exact Or.inr (Or.inr (Or.inl c_61)) | exact Or.inr (Or.inr (Or.inr (Or.inl c_68))) | exact Or.inr (Or.inr (Or.inr (Or.inr (Or.inl c_79)))) | exact Or.inr (Or.inr (Or.inr (Or.inr (Or.inr c_90)))))
                refine z_iconstB F false dX1_changes_93 rfl ?_
                exact z_zret F E rfl rfl dX1_changes_94 (by omega) (by omega) (⟨by rw [hk], by rw [hk]; rfl⟩)
              · refine z_aload_n F dX1_changes_82 rfl ?_
                refine z_iload F dX1_changes_83 rfl ?_
                refine z_iload F dX1_changes_85 rfl ?_
                refine z_callV F (c_has n d f b E1 (by omega) (by omega)) 2 rfl (lw_V q524 q508 q509 q116 q510) (by decide +kernel) ⟨Nat.le_of_ble_eq_true rfl, Nat.le_of_ble_eq_true rfl⟩ ⟨by omega, by omega⟩ [0, 1, 2] 3 ⟨rfl, rfl, rfl, ⟨Or.inl rfl, Or.inr rfl, Or.inr rfl, trivial⟩⟩ (fun h => nomatch h) (Nat.le_of_ble_eq_true rfl) ⟨⟨Or.inr trivial, Or.inl rfl, Or.inl rfl, trivial⟩, rfl, rfl, rfl, Nat.le_of_ble_eq_true rfl⟩ rfl zC5 rfl rfl dX1_changes_87 (fun r_87 w_87 hp => ?_) (fun _ _ h => h.elim)
                obtain ⟨rfl, rfl⟩ := hp
                refine z_weq (w' := [zH, zO _ [zi _, zi _, zr _ _], zAi 0 24 _]) rfl ?_
                refine z_seq (S' := zi _ :: _) rfl ?_
                refine z_if_eqB F (tgt := 95) dX1_changes_90 (by decide) (fun c_90 => ?_) (fun c_90 => ?_)
                · have hk : chok f a b C1 E1 = true := chok_y c_47 c_54 c_61 c_68 c_79 c_90
                  refine z_aload_n F dX1_changes_95 rfl ?_
                  refine z_iload F dX1_changes_96 rfl ?_
                  refine z_iload F dX1_changes_98 rfl ?_
                  refine z_callV F (c_clear n d f a b (by omega) (by omega)) 2 rfl (lw_V q525 q526 q527 q116 q528) (by decide +kernel) ⟨Nat.le_of_ble_eq_true rfl, Nat.le_of_ble_eq_true rfl⟩ ⟨by omega, by omega⟩ [0, 1, 2] 3 ⟨rfl, rfl, rfl, ⟨Or.inl rfl, Or.inr rfl, Or.inr rfl, trivial⟩⟩ (fun h => nomatch h) (Nat.le_of_ble_eq_true rfl) ⟨⟨Or.inr trivial, Or.inl rfl, Or.inl rfl, trivial⟩, rfl, rfl, rfl, Nat.le_of_ble_eq_true rfl⟩ rfl zC5 rfl rfl dX1_changes_100 (fun r_100 w_100 hp => ?_) (fun _ _ h => h.elim)
                  obtain ⟨rfl, rfl⟩ := hp
                  refine z_weq (w' := [zH, zO _ [zi _, zi _, zr _ _], zAi 0 24 _]) rfl ?_
                  refine z_seq (S' := []) rfl ?_
                  refine z_aload_n F dX1_changes_103 rfl ?_
                  refine z_iload F dX1_changes_104 rfl ?_
                  refine z_iload F dX1_changes_106 rfl ?_
                  refine z_callV F (c_clear n d (pt f a b) C1 E1 (by omega) (by omega)) 2 rfl (lw_V q525 q526 q527 q116 q528) (by decide +kernel) ⟨Nat.le_of_ble_eq_true rfl, Nat.le_of_ble_eq_true rfl⟩ ⟨by omega, by omega⟩ [0, 1, 2] 3 ⟨rfl, rfl, rfl, ⟨Or.inl rfl, Or.inr rfl, Or.inr rfl, trivial⟩⟩ (fun h => nomatch h) (Nat.le_of_ble_eq_true rfl) ⟨⟨Or.inr trivial, Or.inl rfl, Or.inl rfl, trivial⟩, rfl, rfl, rfl, Nat.le_of_ble_eq_true rfl⟩ rfl zC5 rfl rfl dX1_changes_108 (fun r_108 w_108 hp => ?_) (fun _ _ h => h.elim)
                  obtain ⟨rfl, rfl⟩ := hp
                  refine z_weq (w' := [zH, zO _ [zi _, zi _, zr _ _], zAi 0 24 _]) rfl ?_
                  refine z_seq (S' := []) rfl ?_
                  refine z_aload_n F dX1_changes_111 rfl ?_
                  refine z_iload F dX1_changes_112 rfl ?_
                  refine z_iload F dX1_changes_114 rfl ?_
                  refine z_callV F (c_setj n d (pt (pt f a b) C1 E1) a C1 (by omega) (by omega)) 2 rfl (lw_V q516 q418 q419 q116 q420) (by decide +kernel) ⟨Nat.le_of_ble_eq_true rfl, Nat.le_of_ble_eq_true rfl⟩ ⟨by omega, by omega⟩ [0, 1, 2] 3 ⟨rfl, rfl, rfl, ⟨Or.inl rfl, Or.inr rfl, Or.inr rfl, trivial⟩⟩ (fun h => nomatch h) (Nat.le_of_ble_eq_true rfl) ⟨⟨Or.inr trivial, Or.inl rfl, Or.inl rfl, trivial⟩, rfl, rfl, rfl, Nat.le_of_ble_eq_true rfl⟩ rfl zC5 rfl rfl dX1_changes_116 (fun r_116 w_116 hp => ?_) (fun _ _ h => h.elim)
                  obtain ⟨rfl, rfl⟩ := hp
                  refine z_weq (w' := [zH, zO _ [zi _, zi _, zr _ _], zAi 0 24 _]) rfl ?_
                  refine z_seq (S' := []) rfl ?_
                  refine z_aload_n F dX1_changes_119 rfl ?_
                  refine z_iload F dX1_changes_120 rfl ?_
                  refine z_iload F dX1_changes_122 rfl ?_
                  refine z_callV F (c_setj n d (jn (pt (pt f a b) C1 E1) a C1) b E1 (by omega) (by omega)) 2 rfl (lw_V q516 q418 q419 q116 q420) (by decide +kernel) ⟨Nat.le_of_ble_eq_true rfl, Nat.le_of_ble_eq_true rfl⟩ ⟨by omega, by omega⟩ [0, 1, 2] 3 ⟨rfl, rfl, rfl, ⟨Or.inl rfl, Or.inr rfl, Or.inr rfl, trivial⟩⟩ (fun h => nomatch h) (Nat.le_of_ble_eq_true rfl) ⟨⟨Or.inr trivial, Or.inl rfl, Or.inl rfl, trivial⟩, rfl, rfl, rfl, Nat.le_of_ble_eq_true rfl⟩ rfl zC5 rfl rfl dX1_changes_124 (fun r_124 w_124 hp => ?_) (fun _ _ h => h.elim)
                  obtain ⟨rfl, rfl⟩ := hp
                  refine z_weq (w' := [zH, zO _ [zi _, zi _, zr _ _], zAi 0 24 _]) rfl ?_
                  refine z_seq (S' := []) rfl ?_
                  refine z_iconstB F true dX1_changes_127 rfl ?_
                  exact z_zret F E rfl rfl dX1_changes_128 (by omega) (by omega) (⟨by rw [hk], by rw [hk, if_pos rfl]; rfl⟩)
                · have hk : chok f a b C1 E1 = false := chok_n1 (by first | exact Or.inl c_47 | exact Or.inr (Or.inl c_54) | exact Or.inr (Or.inr (Or.inl c_61)) | exact Or.inr (Or.inr (Or.inr (Or.inl c_68))) | exact Or.inr (Or.inr (Or.inr (Or.inr (Or.inl c_79)))) | exact Or.inr (Or.inr (Or.inr (Or.inr (Or.inr c_90)))))
                  refine z_iconstB F false dX1_changes_93 rfl ?_
                  exact z_zret F E rfl rfl dX1_changes_94 (by omega) (by omega) (⟨by rw [hk], by rw [hk]; rfl⟩)
    · rw [c_12] at c_28; cases c_28
  · obtain ⟨rfl, rfl⟩ := h1 c_12
    refine z_iload_n F dX1_changes_15 rfl ?_
    refine z_bipush F (nI 31) dX1_changes_16 rfl ?_
    refine z_iand F dX1_changes_18 ?_
    refine z_ieq (pc_lo (by omega) (by omega)) ?_
    refine z_goto F (tgt := 25) dX1_changes_19 (by decide) ?_
    refine z_istore F dX1_changes_25 (Nat.le_of_ble_eq_true rfl) ?_
    refine z_leq (L' := [_, _, _, _, _, _, _, _]) rfl ?_
    refine z_iload_n F dX1_changes_27 rfl ?_
    refine z_if_eqB F (tgt := 37) dX1_changes_28 (by decide) (fun c_28 => ?_) (fun c_28 => ?_)
    · rw [c_12] at c_28; cases c_28
    · refine z_iload_n F dX1_changes_31 rfl ?_
      refine z_iconst F (nI 5) dX1_changes_32 rfl ?_
      refine z_ishr F dX1_changes_33 ?_
      refine z_ieq (pc_hi (by omega) (by omega)) ?_
      refine z_goto F (tgt := 41) dX1_changes_34 (by decide) ?_
      refine z_istore F dX1_changes_41 (Nat.le_of_ble_eq_true rfl) ?_
      refine z_leq (L' := [_, _, _, _, _, _, _, _]) rfl ?_
      refine z_iload F dX1_changes_43 rfl ?_
      refine z_iload F dX1_changes_45 rfl ?_
      refine z_icmp_eqN F (by omega) (by omega) (tgt := 93) dX1_changes_47 (by decide) (fun c_47 => ?_) (fun c_47 => ?_)
      · have hk : chok f a b C1 E1 = false := chok_n1 (by first | exact Or.inl c_47 | exact Or.inr (Or.inl c_54) | exact Or.inr (Or.inr (Or.inl c_61)) | exact Or.inr (Or.inr (Or.inr (Or.inl c_68))) | exact Or.inr (Or.inr (Or.inr (Or.inr (Or.inl c_79)))) | exact Or.inr (Or.inr (Or.inr (Or.inr (Or.inr c_90)))))
        refine z_iconstB F false dX1_changes_93 rfl ?_
        exact z_zret F E rfl rfl dX1_changes_94 (by omega) (by omega) (⟨by rw [hk], by rw [hk]; rfl⟩)
      · refine z_iload F dX1_changes_50 rfl ?_
        refine z_iload F dX1_changes_52 rfl ?_
        refine z_icmp_eqN F (by omega) (by omega) (tgt := 93) dX1_changes_54 (by decide) (fun c_54 => ?_) (fun c_54 => ?_)
        · have hk : chok f a b C1 E1 = false := chok_n1 (by first | exact Or.inl c_47 | exact Or.inr (Or.inl c_54) | exact Or.inr (Or.inr (Or.inl c_61)) | exact Or.inr (Or.inr (Or.inr (Or.inl c_68))) | exact Or.inr (Or.inr (Or.inr (Or.inr (Or.inl c_79)))) | exact Or.inr (Or.inr (Or.inr (Or.inr (Or.inr c_90)))))
          refine z_iconstB F false dX1_changes_93 rfl ?_
          exact z_zret F E rfl rfl dX1_changes_94 (by omega) (by omega) (⟨by rw [hk], by rw [hk]; rfl⟩)
        · refine z_iload F dX1_changes_57 rfl ?_
          refine z_iload F dX1_changes_59 rfl ?_
          refine z_icmp_eqN F (by omega) (by omega) (tgt := 93) dX1_changes_61 (by decide) (fun c_61 => ?_) (fun c_61 => ?_)
          · have hk : chok f a b C1 E1 = false := chok_n1 (by first | exact Or.inl c_47 | exact Or.inr (Or.inl c_54) | exact Or.inr (Or.inr (Or.inl c_61)) | exact Or.inr (Or.inr (Or.inr (Or.inl c_68))) | exact Or.inr (Or.inr (Or.inr (Or.inr (Or.inl c_79)))) | exact Or.inr (Or.inr (Or.inr (Or.inr (Or.inr c_90)))))
            refine z_iconstB F false dX1_changes_93 rfl ?_
            exact z_zret F E rfl rfl dX1_changes_94 (by omega) (by omega) (⟨by rw [hk], by rw [hk]; rfl⟩)
          · refine z_iload F dX1_changes_64 rfl ?_
            refine z_iload F dX1_changes_66 rfl ?_
            refine z_icmp_eqN F (by omega) (by omega) (tgt := 93) dX1_changes_68 (by decide) (fun c_68 => ?_) (fun c_68 => ?_)
            · have hk : chok f a b C1 E1 = false := chok_n1 (by first | exact Or.inl c_47 | exact Or.inr (Or.inl c_54) | exact Or.inr (Or.inr (Or.inl c_61)) | exact Or.inr (Or.inr (Or.inr (Or.inl c_68))) | exact Or.inr (Or.inr (Or.inr (Or.inr (Or.inl c_79)))) | exact Or.inr (Or.inr (Or.inr (Or.inr (Or.inr c_90)))))
              refine z_iconstB F false dX1_changes_93 rfl ?_
              exact z_zret F E rfl rfl dX1_changes_94 (by omega) (by omega) (⟨by rw [hk], by rw [hk]; rfl⟩)
            · refine z_aload_n F dX1_changes_71 rfl ?_
              refine z_iload F dX1_changes_72 rfl ?_
              refine z_iload F dX1_changes_74 rfl ?_
              refine z_callV F (c_has n d f a C1 (by omega) (by omega)) 2 rfl (lw_V q524 q508 q509 q116 q510) (by decide +kernel) ⟨Nat.le_of_ble_eq_true rfl, Nat.le_of_ble_eq_true rfl⟩ ⟨by omega, by omega⟩ [0, 1, 2] 3 ⟨rfl, rfl, rfl, ⟨Or.inl rfl, Or.inr rfl, Or.inr rfl, trivial⟩⟩ (fun h => nomatch h) (Nat.le_of_ble_eq_true rfl) ⟨⟨Or.inr trivial, Or.inl rfl, Or.inl rfl, trivial⟩, rfl, rfl, rfl, Nat.le_of_ble_eq_true rfl⟩ rfl zC5 rfl rfl dX1_changes_76 (fun r_76 w_76 hp => ?_) (fun _ _ h => h.elim)
              obtain ⟨rfl, rfl⟩ := hp
              refine z_weq (w' := [zH, zO _ [zi _, zi _, zr _ _], zAi 0 24 _]) rfl ?_
              refine z_seq (S' := zi _ :: _) rfl ?_
              refine z_if_neB F (tgt := 93) dX1_changes_79 (by decide) (fun c_79 => ?_) (fun c_79 => ?_)
              · have hk : chok f a b C1 E1 = false := chok_n1 (by first | exact Or.inl c_47 | exact Or.inr (Or.inl c_54) | exact Or.inr (Or.inr (Or.inl c_61)) | exact Or.inr (Or.inr (Or.inr (Or.inl c_68))) | exact Or.inr (Or.inr (Or.inr (Or.inr (Or.inl c_79)))) | exact Or.inr (Or.inr (Or.inr (Or.inr (Or.inr c_90)))))
                refine z_iconstB F false dX1_changes_93 rfl ?_
                exact z_zret F E rfl rfl dX1_changes_94 (by omega) (by omega) (⟨by rw [hk], by rw [hk]; rfl⟩)
              · refine z_aload_n F dX1_changes_82 rfl ?_
                refine z_iload F dX1_changes_83 rfl ?_
                refine z_iload F dX1_changes_85 rfl ?_
                refine z_callV F (c_has n d f b E1 (by omega) (by omega)) 2 rfl (lw_V q524 q508 q509 q116 q510) (by decide +kernel) ⟨Nat.le_of_ble_eq_true rfl, Nat.le_of_ble_eq_true rfl⟩ ⟨by omega, by omega⟩ [0, 1, 2] 3 ⟨rfl, rfl, rfl, ⟨Or.inl rfl, Or.inr rfl, Or.inr rfl, trivial⟩⟩ (fun h => nomatch h) (Nat.le_of_ble_eq_true rfl) ⟨⟨Or.inr trivial, Or.inl rfl, Or.inl rfl, trivial⟩, rfl, rfl, rfl, Nat.le_of_ble_eq_true rfl⟩ rfl zC5 rfl rfl dX1_changes_87 (fun r_87 w_87 hp => ?_) (fun _ _ h => h.elim)
                obtain ⟨rfl, rfl⟩ := hp
                refine z_weq (w' := [zH, zO _ [zi _, zi _, zr _ _], zAi 0 24 _]) rfl ?_
                refine z_seq (S' := zi _ :: _) rfl ?_
                refine z_if_eqB F (tgt := 95) dX1_changes_90 (by decide) (fun c_90 => ?_) (fun c_90 => ?_)
                · have hk : chok f a b C1 E1 = true := chok_y c_47 c_54 c_61 c_68 c_79 c_90
                  refine z_aload_n F dX1_changes_95 rfl ?_
                  refine z_iload F dX1_changes_96 rfl ?_
                  refine z_iload F dX1_changes_98 rfl ?_
                  refine z_callV F (c_clear n d f a b (by omega) (by omega)) 2 rfl (lw_V q525 q526 q527 q116 q528) (by decide +kernel) ⟨Nat.le_of_ble_eq_true rfl, Nat.le_of_ble_eq_true rfl⟩ ⟨by omega, by omega⟩ [0, 1, 2] 3 ⟨rfl, rfl, rfl, ⟨Or.inl rfl, Or.inr rfl, Or.inr rfl, trivial⟩⟩ (fun h => nomatch h) (Nat.le_of_ble_eq_true rfl) ⟨⟨Or.inr trivial, Or.inl rfl, Or.inl rfl, trivial⟩, rfl, rfl, rfl, Nat.le_of_ble_eq_true rfl⟩ rfl zC5 rfl rfl dX1_changes_100 (fun r_100 w_100 hp => ?_) (fun _ _ h => h.elim)
                  obtain ⟨rfl, rfl⟩ := hp
                  refine z_weq (w' := [zH, zO _ [zi _, zi _, zr _ _], zAi 0 24 _]) rfl ?_
                  refine z_seq (S' := []) rfl ?_
                  refine z_aload_n F dX1_changes_103 rfl ?_
                  refine z_iload F dX1_changes_104 rfl ?_
                  refine z_iload F dX1_changes_106 rfl ?_
                  refine z_callV F (c_clear n d (pt f a b) C1 E1 (by omega) (by omega)) 2 rfl (lw_V q525 q526 q527 q116 q528) (by decide +kernel) ⟨Nat.le_of_ble_eq_true rfl, Nat.le_of_ble_eq_true rfl⟩ ⟨by omega, by omega⟩ [0, 1, 2] 3 ⟨rfl, rfl, rfl, ⟨Or.inl rfl, Or.inr rfl, Or.inr rfl, trivial⟩⟩ (fun h => nomatch h) (Nat.le_of_ble_eq_true rfl) ⟨⟨Or.inr trivial, Or.inl rfl, Or.inl rfl, trivial⟩, rfl, rfl, rfl, Nat.le_of_ble_eq_true rfl⟩ rfl zC5 rfl rfl dX1_changes_108 (fun r_108 w_108 hp => ?_) (fun _ _ h => h.elim)
                  obtain ⟨rfl, rfl⟩ := hp
                  refine z_weq (w' := [zH, zO _ [zi _, zi _, zr _ _], zAi 0 24 _]) rfl ?_
                  refine z_seq (S' := []) rfl ?_
                  refine z_aload_n F dX1_changes_111 rfl ?_
                  refine z_iload F dX1_changes_112 rfl ?_
                  refine z_iload F dX1_changes_114 rfl ?_
                  refine z_callV F (c_setj n d (pt (pt f a b) C1 E1) a C1 (by omega) (by omega)) 2 rfl (lw_V q516 q418 q419 q116 q420) (by decide +kernel) ⟨Nat.le_of_ble_eq_true rfl, Nat.le_of_ble_eq_true rfl⟩ ⟨by omega, by omega⟩ [0, 1, 2] 3 ⟨rfl, rfl, rfl, ⟨Or.inl rfl, Or.inr rfl, Or.inr rfl, trivial⟩⟩ (fun h => nomatch h) (Nat.le_of_ble_eq_true rfl) ⟨⟨Or.inr trivial, Or.inl rfl, Or.inl rfl, trivial⟩, rfl, rfl, rfl, Nat.le_of_ble_eq_true rfl⟩ rfl zC5 rfl rfl dX1_changes_116 (fun r_116 w_116 hp => ?_) (fun _ _ h => h.elim)
                  obtain ⟨rfl, rfl⟩ := hp
                  refine z_weq (w' := [zH, zO _ [zi _, zi _, zr _ _], zAi 0 24 _]) rfl ?_
                  refine z_seq (S' := []) rfl ?_
                  refine z_aload_n F dX1_changes_119 rfl ?_
                  refine z_iload F dX1_changes_120 rfl ?_
                  refine z_iload F dX1_changes_122 rfl ?_
                  refine z_callV F (c_setj n d (jn (pt (pt f a b) C1 E1) a C1) b E1 (by omega) (by omega)) 2 rfl (lw_V q516 q418 q419 q116 q420) (by decide +kernel) ⟨Nat.le_of_ble_eq_true rfl, Nat.le_of_ble_eq_true rfl⟩ ⟨by omega, by omega⟩ [0, 1, 2] 3 ⟨rfl, rfl, rfl, ⟨Or.inl rfl, Or.inr rfl, Or.inr rfl, trivial⟩⟩ (fun h => nomatch h) (Nat.le_of_ble_eq_true rfl) ⟨⟨Or.inr trivial, Or.inl rfl, Or.inl rfl, trivial⟩, rfl, rfl, rfl, Nat.le_of_ble_eq_true rfl⟩ rfl zC5 rfl rfl dX1_changes_124 (fun r_124 w_124 hp => ?_) (fun _ _ h => h.elim)
                  obtain ⟨rfl, rfl⟩ := hp
                  refine z_weq (w' := [zH, zO _ [zi _, zi _, zr _ _], zAi 0 24 _]) rfl ?_
                  refine z_seq (S' := []) rfl ?_
                  refine z_iconstB F true dX1_changes_127 rfl ?_
                  exact z_zret F E rfl rfl dX1_changes_128 (by omega) (by omega) (⟨by rw [hk], by rw [hk, if_pos rfl]; rfl⟩)
                · have hk : chok f a b C1 E1 = false := chok_n1 (by first | exact Or.inl c_47 | exact Or.inr (Or.inl c_54) | exact Or.inr (Or.inr (Or.inl c_61)) | exact Or.inr (Or.inr (Or.inr (Or.inl c_68))) | exact Or.inr (Or.inr (Or.inr (Or.inr (Or.inl c_79)))) | exact Or.inr (Or.inr (Or.inr (Or.inr (Or.inr c_90)))))
                  refine z_iconstB F false dX1_changes_93 rfl ?_
                  exact z_zret F E rfl rfl dX1_changes_94 (by omega) (by omega) (⟨by rw [hk], by rw [hk]; rfl⟩)
theorem c_xbackG (n d : Int32) (f : Nat → Int32) (a b c0 e0 C1 E1 : Nat) (cr : Bool) (ha : a < 24) (hb : b < 24) (hc : c0 < 24) (he : e0 < 24) (h1 : cr = true → C1 = e0 ∧ E1 = c0) (h2 : cr = false → C1 = c0 ∧ E1 = e0) :
    zCtr yX1_takeBack cX1_takeBack 6 none 1 0 0 [zr 1 0, zi (nI (32 * a + b)), zi (nI (32 * c0 + e0)), zi (bI cr)] [zH, eNet 2 n d, zAi 0 24 f] (fun r w => r = none ∧ w = [zH, eNet 2 n d, zAi 0 24 (chb f a b C1 E1)]) zNx := by
  refine z_start (by decide) [some (zr 1 0), some (zi (nI (32 * a + b))), some (zi (nI (32 * c0 + e0))), some (zi (bI cr)), none, none] rfl (fun _ => Nat.le_of_ble_eq_true rfl) (fun _ => rfl) (fun X F E hno hin => ?_)
  refine z_iload_n F dX1_takeBack_0 rfl ?_
  refine z_if_eqB F (tgt := 11) dX1_takeBack_1 (by decide) (fun c_1 => ?_) (fun c_1 => ?_)
  · obtain ⟨rfl, rfl⟩ := h2 c_1
    refine z_iload_n F dX1_takeBack_11 rfl ?_
    refine z_iconst F (nI 5) dX1_takeBack_12 rfl ?_
    refine z_ishr F dX1_takeBack_13 ?_
    refine z_ieq (pc_hi (by omega) (by omega)) ?_
    refine z_istore F dX1_takeBack_14 (Nat.le_of_ble_eq_true rfl) ?_
    refine z_leq (L' := [_, _, _, _, _, _]) rfl ?_
    refine z_iload_n F dX1_takeBack_16 rfl ?_
    refine z_if_eqB F (tgt := 26) dX1_takeBack_17 (by decide) (fun c_17 => ?_) (fun c_17 => ?_)
    · refine z_iload_n F dX1_takeBack_26 rfl ?_
      refine z_bipush F (nI 31) dX1_takeBack_27 rfl ?_
      refine z_iand F dX1_takeBack_29 ?_
      refine z_ieq (pc_lo (by omega) (by omega)) ?_
      refine z_istore F dX1_takeBack_30 (Nat.le_of_ble_eq_true rfl) ?_
      refine z_leq (L' := [_, _, _, _, _, _]) rfl ?_
      refine z_aload_n F dX1_takeBack_32 rfl ?_
      refine z_iload_n F dX1_takeBack_33 rfl ?_
      refine z_iconst F (nI 5) dX1_takeBack_34 rfl ?_
      refine z_ishr F dX1_takeBack_35 ?_
      refine z_ieq (pc_hi (by omega) (by omega)) ?_
      refine z_iload F dX1_takeBack_36 rfl ?_
      refine z_callV F (c_clear n d f a C1 (by omega) (by omega)) 2 rfl (lw_V q525 q526 q527 q116 q528) (by decide +kernel) ⟨Nat.le_of_ble_eq_true rfl, Nat.le_of_ble_eq_true rfl⟩ ⟨by omega, by omega⟩ [0, 1, 2] 3 ⟨rfl, rfl, rfl, ⟨Or.inl rfl, Or.inr rfl, Or.inr rfl, trivial⟩⟩ (fun h => nomatch h) (Nat.le_of_ble_eq_true rfl) ⟨⟨Or.inr trivial, Or.inl rfl, Or.inl rfl, trivial⟩, rfl, rfl, rfl, Nat.le_of_ble_eq_true rfl⟩ rfl zC5 rfl rfl dX1_takeBack_38 (fun r_38 w_38 hp => ?_) (fun _ _ h => h.elim)
      obtain ⟨rfl, rfl⟩ := hp
      refine z_weq (w' := [zH, zO _ [zi _, zi _, zr _ _], zAi 0 24 _]) rfl ?_
      refine z_seq (S' := []) rfl ?_
      refine z_aload_n F dX1_takeBack_41 rfl ?_
      refine z_iload_n F dX1_takeBack_42 rfl ?_
      refine z_bipush F (nI 31) dX1_takeBack_43 rfl ?_
      refine z_iand F dX1_takeBack_45 ?_
      refine z_ieq (pc_lo (by omega) (by omega)) ?_
      refine z_iload F dX1_takeBack_46 rfl ?_
      refine z_callV F (c_clear n d (pt f a C1) b E1 (by omega) (by omega)) 2 rfl (lw_V q525 q526 q527 q116 q528) (by decide +kernel) ⟨Nat.le_of_ble_eq_true rfl, Nat.le_of_ble_eq_true rfl⟩ ⟨by omega, by omega⟩ [0, 1, 2] 3 ⟨rfl, rfl, rfl, ⟨Or.inl rfl, Or.inr rfl, Or.inr rfl, trivial⟩⟩ (fun h => nomatch h) (Nat.le_of_ble_eq_true rfl) ⟨⟨Or.inr trivial, Or.inl rfl, Or.inl rfl, trivial⟩, rfl, rfl, rfl, Nat.le_of_ble_eq_true rfl⟩ rfl zC5 rfl rfl dX1_takeBack_48 (fun r_48 w_48 hp => ?_) (fun _ _ h => h.elim)
      obtain ⟨rfl, rfl⟩ := hp
      refine z_weq (w' := [zH, zO _ [zi _, zi _, zr _ _], zAi 0 24 _]) rfl ?_
      refine z_seq (S' := []) rfl ?_
      refine z_aload_n F dX1_takeBack_51 rfl ?_
      refine z_iload_n F dX1_takeBack_52 rfl ?_
      refine z_iconst F (nI 5) dX1_takeBack_53 rfl ?_
      refine z_ishr F dX1_takeBack_54 ?_
      refine z_ieq (pc_hi (by omega) (by omega)) ?_
      refine z_iload_n F dX1_takeBack_55 rfl ?_
      refine z_bipush F (nI 31) dX1_takeBack_56 rfl ?_
      refine z_iand F dX1_takeBack_58 ?_
      refine z_ieq (pc_lo (by omega) (by omega)) ?_
      refine z_callV F (c_setj n d (pt (pt f a C1) b E1) a b (by omega) (by omega)) 2 rfl (lw_V q516 q418 q419 q116 q420) (by decide +kernel) ⟨Nat.le_of_ble_eq_true rfl, Nat.le_of_ble_eq_true rfl⟩ ⟨by omega, by omega⟩ [0, 1, 2] 3 ⟨rfl, rfl, rfl, ⟨Or.inl rfl, Or.inr rfl, Or.inr rfl, trivial⟩⟩ (fun h => nomatch h) (Nat.le_of_ble_eq_true rfl) ⟨⟨Or.inr trivial, Or.inl rfl, Or.inl rfl, trivial⟩, rfl, rfl, rfl, Nat.le_of_ble_eq_true rfl⟩ rfl zC5 rfl rfl dX1_takeBack_59 (fun r_59 w_59 hp => ?_) (fun _ _ h => h.elim)
      obtain ⟨rfl, rfl⟩ := hp
      refine z_weq (w' := [zH, zO _ [zi _, zi _, zr _ _], zAi 0 24 _]) rfl ?_
      refine z_seq (S' := []) rfl ?_
      refine z_aload_n F dX1_takeBack_62 rfl ?_
      refine z_iload F dX1_takeBack_63 rfl ?_
      refine z_iload F dX1_takeBack_65 rfl ?_
      refine z_callV F (c_setj n d (jn (pt (pt f a C1) b E1) a b) C1 E1 (by omega) (by omega)) 2 rfl (lw_V q516 q418 q419 q116 q420) (by decide +kernel) ⟨Nat.le_of_ble_eq_true rfl, Nat.le_of_ble_eq_true rfl⟩ ⟨by omega, by omega⟩ [0, 1, 2] 3 ⟨rfl, rfl, rfl, ⟨Or.inl rfl, Or.inr rfl, Or.inr rfl, trivial⟩⟩ (fun h => nomatch h) (Nat.le_of_ble_eq_true rfl) ⟨⟨Or.inr trivial, Or.inl rfl, Or.inl rfl, trivial⟩, rfl, rfl, rfl, Nat.le_of_ble_eq_true rfl⟩ rfl zC5 rfl rfl dX1_takeBack_67 (fun r_67 w_67 hp => ?_) (fun _ _ h => h.elim)
      obtain ⟨rfl, rfl⟩ := hp
      refine z_weq (w' := [zH, zO _ [zi _, zi _, zr _ _], zAi 0 24 _]) rfl ?_
      refine z_seq (S' := []) rfl ?_
      exact z_vret F E rfl dX1_takeBack_70 (by omega) (by omega) (⟨rfl, rfl⟩)
    · rw [c_1] at c_17; cases c_17
  · obtain ⟨rfl, rfl⟩ := h1 c_1
    refine z_iload_n F dX1_takeBack_4 rfl ?_
    refine z_bipush F (nI 31) dX1_takeBack_5 rfl ?_
    refine z_iand F dX1_takeBack_7 ?_
    refine z_ieq (pc_lo (by omega) (by omega)) ?_
    refine z_goto F (tgt := 14) dX1_takeBack_8 (by decide) ?_
    refine z_istore F dX1_takeBack_14 (Nat.le_of_ble_eq_true rfl) ?_
    refine z_leq (L' := [_, _, _, _, _, _]) rfl ?_
    refine z_iload_n F dX1_takeBack_16 rfl ?_
    refine z_if_eqB F (tgt := 26) dX1_takeBack_17 (by decide) (fun c_17 => ?_) (fun c_17 => ?_)
    · rw [c_1] at c_17; cases c_17
    · refine z_iload_n F dX1_takeBack_20 rfl ?_
      refine z_iconst F (nI 5) dX1_takeBack_21 rfl ?_
      refine z_ishr F dX1_takeBack_22 ?_
      refine z_ieq (pc_hi (by omega) (by omega)) ?_
      refine z_goto F (tgt := 30) dX1_takeBack_23 (by decide) ?_
      refine z_istore F dX1_takeBack_30 (Nat.le_of_ble_eq_true rfl) ?_
      refine z_leq (L' := [_, _, _, _, _, _]) rfl ?_
      refine z_aload_n F dX1_takeBack_32 rfl ?_
      refine z_iload_n F dX1_takeBack_33 rfl ?_
      refine z_iconst F (nI 5) dX1_takeBack_34 rfl ?_
      refine z_ishr F dX1_takeBack_35 ?_
      refine z_ieq (pc_hi (by omega) (by omega)) ?_
      refine z_iload F dX1_takeBack_36 rfl ?_
      refine z_callV F (c_clear n d f a C1 (by omega) (by omega)) 2 rfl (lw_V q525 q526 q527 q116 q528) (by decide +kernel) ⟨Nat.le_of_ble_eq_true rfl, Nat.le_of_ble_eq_true rfl⟩ ⟨by omega, by omega⟩ [0, 1, 2] 3 ⟨rfl, rfl, rfl, ⟨Or.inl rfl, Or.inr rfl, Or.inr rfl, trivial⟩⟩ (fun h => nomatch h) (Nat.le_of_ble_eq_true rfl) ⟨⟨Or.inr trivial, Or.inl rfl, Or.inl rfl, trivial⟩, rfl, rfl, rfl, Nat.le_of_ble_eq_true rfl⟩ rfl zC5 rfl rfl dX1_takeBack_38 (fun r_38 w_38 hp => ?_) (fun _ _ h => h.elim)
      obtain ⟨rfl, rfl⟩ := hp
      refine z_weq (w' := [zH, zO _ [zi _, zi _, zr _ _], zAi 0 24 _]) rfl ?_
      refine z_seq (S' := []) rfl ?_
      refine z_aload_n F dX1_takeBack_41 rfl ?_
      refine z_iload_n F dX1_takeBack_42 rfl ?_
      refine z_bipush F (nI 31) dX1_takeBack_43 rfl ?_
      refine z_iand F dX1_takeBack_45 ?_
      refine z_ieq (pc_lo (by omega) (by omega)) ?_
      refine z_iload F dX1_takeBack_46 rfl ?_
      refine z_callV F (c_clear n d (pt f a C1) b E1 (by omega) (by omega)) 2 rfl (lw_V q525 q526 q527 q116 q528) (by decide +kernel) ⟨Nat.le_of_ble_eq_true rfl, Nat.le_of_ble_eq_true rfl⟩ ⟨by omega, by omega⟩ [0, 1, 2] 3 ⟨rfl, rfl, rfl, ⟨Or.inl rfl, Or.inr rfl, Or.inr rfl, trivial⟩⟩ (fun h => nomatch h) (Nat.le_of_ble_eq_true rfl) ⟨⟨Or.inr trivial, Or.inl rfl, Or.inl rfl, trivial⟩, rfl, rfl, rfl, Nat.le_of_ble_eq_true rfl⟩ rfl zC5 rfl rfl dX1_takeBack_48 (fun r_48 w_48 hp => ?_) (fun _ _ h => h.elim)
      obtain ⟨rfl, rfl⟩ := hp
      refine z_weq (w' := [zH, zO _ [zi _, zi _, zr _ _], zAi 0 24 _]) rfl ?_
      refine z_seq (S' := []) rfl ?_
      refine z_aload_n F dX1_takeBack_51 rfl ?_
      refine z_iload_n F dX1_takeBack_52 rfl ?_
      refine z_iconst F (nI 5) dX1_takeBack_53 rfl ?_
      refine z_ishr F dX1_takeBack_54 ?_
      refine z_ieq (pc_hi (by omega) (by omega)) ?_
      refine z_iload_n F dX1_takeBack_55 rfl ?_
      refine z_bipush F (nI 31) dX1_takeBack_56 rfl ?_
      refine z_iand F dX1_takeBack_58 ?_
      refine z_ieq (pc_lo (by omega) (by omega)) ?_
      refine z_callV F (c_setj n d (pt (pt f a C1) b E1) a b (by omega) (by omega)) 2 rfl (lw_V q516 q418 q419 q116 q420) (by decide +kernel) ⟨Nat.le_of_ble_eq_true rfl, Nat.le_of_ble_eq_true rfl⟩ ⟨by omega, by omega⟩ [0, 1, 2] 3 ⟨rfl, rfl, rfl, ⟨Or.inl rfl, Or.inr rfl, Or.inr rfl, trivial⟩⟩ (fun h => nomatch h) (Nat.le_of_ble_eq_true rfl) ⟨⟨Or.inr trivial, Or.inl rfl, Or.inl rfl, trivial⟩, rfl, rfl, rfl, Nat.le_of_ble_eq_true rfl⟩ rfl zC5 rfl rfl dX1_takeBack_59 (fun r_59 w_59 hp => ?_) (fun _ _ h => h.elim)
      obtain ⟨rfl, rfl⟩ := hp
      refine z_weq (w' := [zH, zO _ [zi _, zi _, zr _ _], zAi 0 24 _]) rfl ?_
      refine z_seq (S' := []) rfl ?_
      refine z_aload_n F dX1_takeBack_62 rfl ?_
      refine z_iload F dX1_takeBack_63 rfl ?_
      refine z_iload F dX1_takeBack_65 rfl ?_
      refine z_callV F (c_setj n d (jn (pt (pt f a C1) b E1) a b) C1 E1 (by omega) (by omega)) 2 rfl (lw_V q516 q418 q419 q116 q420) (by decide +kernel) ⟨Nat.le_of_ble_eq_true rfl, Nat.le_of_ble_eq_true rfl⟩ ⟨by omega, by omega⟩ [0, 1, 2] 3 ⟨rfl, rfl, rfl, ⟨Or.inl rfl, Or.inr rfl, Or.inr rfl, trivial⟩⟩ (fun h => nomatch h) (Nat.le_of_ble_eq_true rfl) ⟨⟨Or.inr trivial, Or.inl rfl, Or.inl rfl, trivial⟩, rfl, rfl, rfl, Nat.le_of_ble_eq_true rfl⟩ rfl zC5 rfl rfl dX1_takeBack_67 (fun r_67 w_67 hp => ?_) (fun _ _ h => h.elim)
      obtain ⟨rfl, rfl⟩ := hp
      refine z_weq (w' := [zH, zO _ [zi _, zi _, zr _ _], zAi 0 24 _]) rfl ?_
      refine z_seq (S' := []) rfl ?_
      exact z_vret F E rfl dX1_takeBack_70 (by omega) (by omega) (⟨rfl, rfl⟩)
theorem c3_t {l : List (Nat × Nat)} {j : Nat} {cr : Bool} (h : cr = true) : c3 l j cr = lb l j ∧ c4 l j cr = la l j := by subst h; exact ⟨rfl, rfl⟩
theorem c3_f {l : List (Nat × Nat)} {j : Nat} {cr : Bool} (h : cr = false) : c3 l j cr = la l j ∧ c4 l j cr = lb l j := by subst h; exact ⟨rfl, rfl⟩
theorem c_xchg (n d : Nat) (f : Nat → Int32) (i j : Nat) (cr : Bool) (h : nok n d f) (hi : i < (prs n f).length) (hj : j < (prs n f).length) :
    zCtr yX1_changes cX1_changes 8 (some .boolean) 1 0 0 [zr 1 0, zi (nI (32 * la (prs n f) i + lb (prs n f) i)), zi (nI (32 * la (prs n f) j + lb (prs n f) j)), zi (bI cr)] [zH, eNet 2 (nI n) (nI d), zAi 0 24 f] (fun r w => r = some (zi (bI (cok n f i j cr))) ∧ w = [zH, eNet 2 (nI n) (nI d), zAi 0 24 (if cok n f i j cr then cgo n f i j cr else f)]) zNx := by
  have h24 := h.n24
  obtain ⟨p1, p2, p3⟩ := prs_at hi
  obtain ⟨q1, q2, q3⟩ := prs_at hj
  exact c_xchangesG (nI n) (nI d) f _ _ _ _ _ _ cr (by omega) (by omega) (by omega) (by omega) c3_t c3_f
theorem c_xback (n d : Nat) (f g : Nat → Int32) (i j : Nat) (cr : Bool) (h : nok n d f) (hi : i < (prs n f).length) (hj : j < (prs n f).length) :
    zCtr yX1_takeBack cX1_takeBack 6 none 1 0 0 [zr 1 0, zi (nI (32 * la (prs n f) i + lb (prs n f) i)), zi (nI (32 * la (prs n f) j + lb (prs n f) j)), zi (bI cr)] [zH, eNet 2 (nI n) (nI d), zAi 0 24 g] (fun r w => r = none ∧ w = [zH, eNet 2 (nI n) (nI d), zAi 0 24 (chb g (la (prs n f) i) (lb (prs n f) i) (c3 (prs n f) j cr) (c4 (prs n f) j cr))]) zNx := by
  have h24 := h.n24
  obtain ⟨p1, p2, p3⟩ := prs_at hi
  obtain ⟨q1, q2, q3⟩ := prs_at hj
  exact c_xbackG (nI n) (nI d) g _ _ _ _ _ _ cr (by omega) (by omega) (by omega) (by omega) c3_t c3_f
theorem c_mchangesG (F0 : Nat → Int32) (G : Nat → Int64) (A : Nat → Nat → Int32) (B : Nat → Nat → Int64) (i j a b c0 e0 C1 E1 : Nat) (cr : Bool) (hi : i < 96) (hj : j < 96) (ai : A 21 i = nI a) (bi : A 22 i = nI b) (aj : A 21 j = nI c0) (bj : A 22 j = nI e0) (ha : a < 24) (hb : b < 24) (hc : c0 < 24) (he : e0 < 24) (h1 : cr = true → C1 = e0 ∧ E1 = c0) (h2 : cr = false → C1 = c0 ∧ E1 = e0) :
    zCtr yX6_changes cX6_changes 8 (some .boolean) 1 0 0 [zr 1 0, zi (nI i), zi (nI j), zi (bI cr)] [zH, zG F0 G A B] (fun r w => r = some (zi (bI (chok (A 6) a b C1 E1))) ∧ w = [zH, zG F0 G (if chok (A 6) a b C1 E1 then fA A 6 (chg (A 6) a b C1 E1) else A) B]) zNx := by
  refine z_start (by decide) [some (zr 1 0), some (zi (nI i)), some (zi (nI j)), some (zi (bI cr)), none, none, none, none] rfl (fun _ => Nat.le_of_ble_eq_true rfl) (fun _ => rfl) (fun X F E hno hin => ?_)
  refine z_aload_n F dX6_changes_0 rfl ?_
  refine z_ma F rfl 21 rfl (Nat.le_of_ble_eq_true rfl) rfl q1501 dX6_changes_1 ?_
  refine z_iload_n F dX6_changes_4 rfl ?_
  refine z_ialdGN F rfl rfl (Nat.le_of_ble_eq_true rfl) (by omega) rfl dX6_changes_5 ?_
  refine z_ieq (ai) ?_
  refine z_istore F dX6_changes_6 (Nat.le_of_ble_eq_true rfl) ?_
  refine z_leq (L' := [_, _, _, _, _, _, _, _]) rfl ?_
  refine z_aload_n F dX6_changes_8 rfl ?_
  refine z_ma F rfl 22 rfl (Nat.le_of_ble_eq_true rfl) rfl q1502 dX6_changes_9 ?_
  refine z_iload_n F dX6_changes_12 rfl ?_
  refine z_ialdGN F rfl rfl (Nat.le_of_ble_eq_true rfl) (by omega) rfl dX6_changes_13 ?_
  refine z_ieq (bi) ?_
  refine z_istore F dX6_changes_14 (Nat.le_of_ble_eq_true rfl) ?_
  refine z_leq (L' := [_, _, _, _, _, _, _, _]) rfl ?_
  refine z_iload_n F dX6_changes_16 rfl ?_
  refine z_if_eqB F (tgt := 29) dX6_changes_17 (by decide) (fun c_17 => ?_) (fun c_17 => ?_)
  · obtain ⟨rfl, rfl⟩ := h2 c_17
    refine z_aload_n F dX6_changes_29 rfl ?_
    refine z_ma F rfl 21 rfl (Nat.le_of_ble_eq_true rfl) rfl q1501 dX6_changes_30 ?_
    refine z_iload_n F dX6_changes_33 rfl ?_
    refine z_ialdGN F rfl rfl (Nat.le_of_ble_eq_true rfl) (by omega) rfl dX6_changes_34 ?_
    refine z_ieq (aj) ?_
    refine z_istore F dX6_changes_35 (Nat.le_of_ble_eq_true rfl) ?_
    refine z_leq (L' := [_, _, _, _, _, _, _, _]) rfl ?_
    refine z_iload_n F dX6_changes_37 rfl ?_
    refine z_if_eqB F (tgt := 50) dX6_changes_38 (by decide) (fun c_38 => ?_) (fun c_38 => ?_)
    · refine z_aload_n F dX6_changes_50 rfl ?_
      refine z_ma F rfl 22 rfl (Nat.le_of_ble_eq_true rfl) rfl q1502 dX6_changes_51 ?_
      refine z_iload_n F dX6_changes_54 rfl ?_
      refine z_ialdGN F rfl rfl (Nat.le_of_ble_eq_true rfl) (by omega) rfl dX6_changes_55 ?_
      refine z_ieq (bj) ?_
      refine z_istore F dX6_changes_56 (Nat.le_of_ble_eq_true rfl) ?_
      refine z_leq (L' := [_, _, _, _, _, _, _, _]) rfl ?_
      refine z_iload F dX6_changes_58 rfl ?_
      refine z_iload F dX6_changes_60 rfl ?_
      refine z_icmp_eqN F (by omega) (by omega) (tgt := 108) dX6_changes_62 (by decide) (fun c_62 => ?_) (fun c_62 => ?_)
      · have hk : chok (A 6) a b C1 E1 = false := chok_n1 (by first | exact Or.inl c_62 | exact Or.inr (Or.inl c_69) | exact Or.inr (Or.inr (Or.inl c_76)) | exact Or.inr (Or.inr (Or.inr (Or.inl c_83))) | exact Or.inr (Or.inr (Or.inr (Or.inr (Or.inl c_94)))) | exact Or.inr (Or.inr (Or.inr (Or.inr (Or.inr c_105)))))
        refine z_iconstB F false dX6_changes_108 rfl ?_
        exact z_zret F E rfl rfl dX6_changes_109 (by omega) (by omega) (⟨by rw [hk], by rw [hk]; rfl⟩)
      · refine z_iload F dX6_changes_65 rfl ?_
        refine z_iload F dX6_changes_67 rfl ?_
        refine z_icmp_eqN F (by omega) (by omega) (tgt := 108) dX6_changes_69 (by decide) (fun c_69 => ?_) (fun c_69 => ?_)
        · have hk : chok (A 6) a b C1 E1 = false := chok_n1 (by first | exact Or.inl c_62 | exact Or.inr (Or.inl c_69) | exact Or.inr (Or.inr (Or.inl c_76)) | exact Or.inr (Or.inr (Or.inr (Or.inl c_83))) | exact Or.inr (Or.inr (Or.inr (Or.inr (Or.inl c_94)))) | exact Or.inr (Or.inr (Or.inr (Or.inr (Or.inr c_105)))))
          refine z_iconstB F false dX6_changes_108 rfl ?_
          exact z_zret F E rfl rfl dX6_changes_109 (by omega) (by omega) (⟨by rw [hk], by rw [hk]; rfl⟩)
        · refine z_iload F dX6_changes_72 rfl ?_
          refine z_iload F dX6_changes_74 rfl ?_
          refine z_icmp_eqN F (by omega) (by omega) (tgt := 108) dX6_changes_76 (by decide) (fun c_76 => ?_) (fun c_76 => ?_)
          · have hk : chok (A 6) a b C1 E1 = false := chok_n1 (by first | exact Or.inl c_62 | exact Or.inr (Or.inl c_69) | exact Or.inr (Or.inr (Or.inl c_76)) | exact Or.inr (Or.inr (Or.inr (Or.inl c_83))) | exact Or.inr (Or.inr (Or.inr (Or.inr (Or.inl c_94)))) | exact Or.inr (Or.inr (Or.inr (Or.inr (Or.inr c_105)))))
            refine z_iconstB F false dX6_changes_108 rfl ?_
            exact z_zret F E rfl rfl dX6_changes_109 (by omega) (by omega) (⟨by rw [hk], by rw [hk]; rfl⟩)
          · refine z_iload F dX6_changes_79 rfl ?_
            refine z_iload F dX6_changes_81 rfl ?_
            refine z_icmp_eqN F (by omega) (by omega) (tgt := 108) dX6_changes_83 (by decide) (fun c_83 => ?_) (fun c_83 => ?_)
            · have hk : chok (A 6) a b C1 E1 = false := chok_n1 (by first | exact Or.inl c_62 | exact Or.inr (Or.inl c_69) | exact Or.inr (Or.inr (Or.inl c_76)) | exact Or.inr (Or.inr (Or.inr (Or.inl c_83))) | exact Or.inr (Or.inr (Or.inr (Or.inr (Or.inl c_94)))) | exact Or.inr (Or.inr (Or.inr (Or.inr (Or.inr c_105)))))
              refine z_iconstB F false dX6_changes_108 rfl ?_
              exact z_zret F E rfl rfl dX6_changes_109 (by omega) (by omega) (⟨by rw [hk], by rw [hk]; rfl⟩)
            · refine z_aload_n F dX6_changes_86 rfl ?_
              refine z_iload F dX6_changes_87 rfl ?_
              refine z_iload F dX6_changes_89 rfl ?_
              refine z_callV F (c_isJoined _ _ _ _ a C1 (by omega) (by omega)) 2 rfl (lw_V q1748 q1750 qs46 q117 q1751) (by decide +kernel) ⟨Nat.le_of_ble_eq_true rfl, Nat.le_of_ble_eq_true rfl⟩ ⟨by omega, by omega⟩ [0, 1] 2 ⟨rfl, rfl, rfl, ⟨Or.inl rfl, Or.inr rfl, trivial⟩⟩ (fun h => nomatch h) (Nat.le_of_ble_eq_true rfl) ⟨⟨Or.inr trivial, Or.inl rfl, trivial⟩, rfl, rfl, rfl, Nat.le_of_ble_eq_true rfl⟩ rfl zC6 (zat_G0 rfl) rfl dX6_changes_91 (fun r_91 w_91 hp => ?_) (fun _ _ h => h.elim)
              obtain ⟨rfl, rfl⟩ := hp
              refine z_weq (w' := [zH, zG _ _ _ _]) rfl ?_
              refine z_seq (S' := zi _ :: _) rfl ?_
              refine z_if_neB F (tgt := 108) dX6_changes_94 (by decide) (fun c_94 => ?_) (fun c_94 => ?_)
              · have hk : chok (A 6) a b C1 E1 = false := chok_n1 (by first | exact Or.inl c_62 | exact Or.inr (Or.inl c_69) | exact Or.inr (Or.inr (Or.inl c_76)) | exact Or.inr (Or.inr (Or.inr (Or.inl c_83))) | exact Or.inr (Or.inr (Or.inr (Or.inr (Or.inl c_94)))) | exact Or.inr (Or.inr (Or.inr (Or.inr (Or.inr c_105)))))
                refine z_iconstB F false dX6_changes_108 rfl ?_
                exact z_zret F E rfl rfl dX6_changes_109 (by omega) (by omega) (⟨by rw [hk], by rw [hk]; rfl⟩)
              · refine z_aload_n F dX6_changes_97 rfl ?_
                refine z_iload F dX6_changes_98 rfl ?_
                refine z_iload F dX6_changes_100 rfl ?_
                refine z_callV F (c_isJoined _ _ _ _ b E1 (by omega) (by omega)) 2 rfl (lw_V q1748 q1750 qs46 q117 q1751) (by decide +kernel) ⟨Nat.le_of_ble_eq_true rfl, Nat.le_of_ble_eq_true rfl⟩ ⟨by omega, by omega⟩ [0, 1] 2 ⟨rfl, rfl, rfl, ⟨Or.inl rfl, Or.inr rfl, trivial⟩⟩ (fun h => nomatch h) (Nat.le_of_ble_eq_true rfl) ⟨⟨Or.inr trivial, Or.inl rfl, trivial⟩, rfl, rfl, rfl, Nat.le_of_ble_eq_true rfl⟩ rfl zC6 (zat_G0 rfl) rfl dX6_changes_102 (fun r_102 w_102 hp => ?_) (fun _ _ h => h.elim)
                obtain ⟨rfl, rfl⟩ := hp
                refine z_weq (w' := [zH, zG _ _ _ _]) rfl ?_
                refine z_seq (S' := zi _ :: _) rfl ?_
                refine z_if_eqB F (tgt := 110) dX6_changes_105 (by decide) (fun c_105 => ?_) (fun c_105 => ?_)
                · have hk : chok (A 6) a b C1 E1 = true := chok_y c_62 c_69 c_76 c_83 c_94 c_105
                  refine z_aload_n F dX6_changes_110 rfl ?_
                  refine z_iload F dX6_changes_111 rfl ?_
                  refine z_iload F dX6_changes_113 rfl ?_
                  refine z_callV F (c_parts _ _ _ _ a b (by omega) (by omega)) 2 rfl (lw_V q1763 q1765 qs48 q117 q1766) (by decide +kernel) ⟨Nat.le_of_ble_eq_true rfl, Nat.le_of_ble_eq_true rfl⟩ ⟨by omega, by omega⟩ [0, 1] 2 ⟨rfl, rfl, rfl, ⟨Or.inl rfl, Or.inr rfl, trivial⟩⟩ (fun h => nomatch h) (Nat.le_of_ble_eq_true rfl) ⟨⟨Or.inr trivial, Or.inl rfl, trivial⟩, rfl, rfl, rfl, Nat.le_of_ble_eq_true rfl⟩ rfl zC6 (zat_G0 rfl) rfl dX6_changes_115 (fun r_115 w_115 hp => ?_) (fun _ _ h => h.elim)
                  obtain ⟨rfl, rfl⟩ := hp
                  refine z_weq (w' := [zH, zG _ _ _ _]) rfl ?_
                  refine z_seq (S' := []) rfl ?_
                  refine z_aload_n F dX6_changes_118 rfl ?_
                  refine z_iload F dX6_changes_119 rfl ?_
                  refine z_iload F dX6_changes_121 rfl ?_
                  refine z_callV F (c_parts _ _ _ _ C1 E1 (by omega) (by omega)) 2 rfl (lw_V q1763 q1765 qs48 q117 q1766) (by decide +kernel) ⟨Nat.le_of_ble_eq_true rfl, Nat.le_of_ble_eq_true rfl⟩ ⟨by omega, by omega⟩ [0, 1] 2 ⟨rfl, rfl, rfl, ⟨Or.inl rfl, Or.inr rfl, trivial⟩⟩ (fun h => nomatch h) (Nat.le_of_ble_eq_true rfl) ⟨⟨Or.inr trivial, Or.inl rfl, trivial⟩, rfl, rfl, rfl, Nat.le_of_ble_eq_true rfl⟩ rfl zC6 (zat_G0 rfl) rfl dX6_changes_123 (fun r_123 w_123 hp => ?_) (fun _ _ h => h.elim)
                  obtain ⟨rfl, rfl⟩ := hp
                  rw [fA_at, fA_fA]
                  refine z_weq (w' := [zH, zG _ _ _ _]) rfl ?_
                  refine z_seq (S' := []) rfl ?_
                  refine z_aload_n F dX6_changes_126 rfl ?_
                  refine z_iload F dX6_changes_127 rfl ?_
                  refine z_iload F dX6_changes_129 rfl ?_
                  refine z_callV F (c_joins _ _ _ _ a C1 (by omega) (by omega)) 2 rfl (lw_V q1755 q1757 qs47 q117 q1758) (by decide +kernel) ⟨Nat.le_of_ble_eq_true rfl, Nat.le_of_ble_eq_true rfl⟩ ⟨by omega, by omega⟩ [0, 1] 2 ⟨rfl, rfl, rfl, ⟨Or.inl rfl, Or.inr rfl, trivial⟩⟩ (fun h => nomatch h) (Nat.le_of_ble_eq_true rfl) ⟨⟨Or.inr trivial, Or.inl rfl, trivial⟩, rfl, rfl, rfl, Nat.le_of_ble_eq_true rfl⟩ rfl zC6 (zat_G0 rfl) rfl dX6_changes_131 (fun r_131 w_131 hp => ?_) (fun _ _ h => h.elim)
                  obtain ⟨rfl, rfl⟩ := hp
                  rw [fA_at, fA_fA]
                  refine z_weq (w' := [zH, zG _ _ _ _]) rfl ?_
                  refine z_seq (S' := []) rfl ?_
                  refine z_aload_n F dX6_changes_134 rfl ?_
                  refine z_iload F dX6_changes_135 rfl ?_
                  refine z_iload F dX6_changes_137 rfl ?_
                  refine z_callV F (c_joins _ _ _ _ b E1 (by omega) (by omega)) 2 rfl (lw_V q1755 q1757 qs47 q117 q1758) (by decide +kernel) ⟨Nat.le_of_ble_eq_true rfl, Nat.le_of_ble_eq_true rfl⟩ ⟨by omega, by omega⟩ [0, 1] 2 ⟨rfl, rfl, rfl, ⟨Or.inl rfl, Or.inr rfl, trivial⟩⟩ (fun h => nomatch h) (Nat.le_of_ble_eq_true rfl) ⟨⟨Or.inr trivial, Or.inl rfl, trivial⟩, rfl, rfl, rfl, Nat.le_of_ble_eq_true rfl⟩ rfl zC6 (zat_G0 rfl) rfl dX6_changes_139 (fun r_139 w_139 hp => ?_) (fun _ _ h => h.elim)
                  obtain ⟨rfl, rfl⟩ := hp
                  rw [fA_at, fA_fA]
                  refine z_weq (w' := [zH, zG _ _ _ _]) rfl ?_
                  refine z_seq (S' := []) rfl ?_
                  refine z_iconstB F true dX6_changes_142 rfl ?_
                  exact z_zret F E rfl rfl dX6_changes_143 (by omega) (by omega) (⟨by rw [hk], by rw [hk, if_pos rfl]; rfl⟩)
                · have hk : chok (A 6) a b C1 E1 = false := chok_n1 (by first | exact Or.inl c_62 | exact Or.inr (Or.inl c_69) | exact Or.inr (Or.inr (Or.inl c_76)) | exact Or.inr (Or.inr (Or.inr (Or.inl c_83))) | exact Or.inr (Or.inr (Or.inr (Or.inr (Or.inl c_94)))) | exact Or.inr (Or.inr (Or.inr (Or.inr (Or.inr c_105)))))
                  refine z_iconstB F false dX6_changes_108 rfl ?_
                  exact z_zret F E rfl rfl dX6_changes_109 (by omega) (by omega) (⟨by rw [hk], by rw [hk]; rfl⟩)
    · rw [c_17] at c_38; cases c_38
  · obtain ⟨rfl, rfl⟩ := h1 c_17
    refine z_aload_n F dX6_changes_20 rfl ?_
    refine z_ma F rfl 22 rfl (Nat.le_of_ble_eq_true rfl) rfl q1502 dX6_changes_21 ?_
    refine z_iload_n F dX6_changes_24 rfl ?_
    refine z_ialdGN F rfl rfl (Nat.le_of_ble_eq_true rfl) (by omega) rfl dX6_changes_25 ?_
    refine z_ieq (bj) ?_
    refine z_goto F (tgt := 35) dX6_changes_26 (by decide) ?_
    refine z_istore F dX6_changes_35 (Nat.le_of_ble_eq_true rfl) ?_
    refine z_leq (L' := [_, _, _, _, _, _, _, _]) rfl ?_
    refine z_iload_n F dX6_changes_37 rfl ?_
    refine z_if_eqB F (tgt := 50) dX6_changes_38 (by decide) (fun c_38 => ?_) (fun c_38 => ?_)
    · rw [c_17] at c_38; cases c_38
    · refine z_aload_n F dX6_changes_41 rfl ?_
      refine z_ma F rfl 21 rfl (Nat.le_of_ble_eq_true rfl) rfl q1501 dX6_changes_42 ?_
      refine z_iload_n F dX6_changes_45 rfl ?_
      refine z_ialdGN F rfl rfl (Nat.le_of_ble_eq_true rfl) (by omega) rfl dX6_changes_46 ?_
      refine z_ieq (aj) ?_
      refine z_goto F (tgt := 56) dX6_changes_47 (by decide) ?_
      refine z_istore F dX6_changes_56 (Nat.le_of_ble_eq_true rfl) ?_
      refine z_leq (L' := [_, _, _, _, _, _, _, _]) rfl ?_
      refine z_iload F dX6_changes_58 rfl ?_
      refine z_iload F dX6_changes_60 rfl ?_
      refine z_icmp_eqN F (by omega) (by omega) (tgt := 108) dX6_changes_62 (by decide) (fun c_62 => ?_) (fun c_62 => ?_)
      · have hk : chok (A 6) a b C1 E1 = false := chok_n1 (by first | exact Or.inl c_62 | exact Or.inr (Or.inl c_69) | exact Or.inr (Or.inr (Or.inl c_76)) | exact Or.inr (Or.inr (Or.inr (Or.inl c_83))) | exact Or.inr (Or.inr (Or.inr (Or.inr (Or.inl c_94)))) | exact Or.inr (Or.inr (Or.inr (Or.inr (Or.inr c_105)))))
        refine z_iconstB F false dX6_changes_108 rfl ?_
        exact z_zret F E rfl rfl dX6_changes_109 (by omega) (by omega) (⟨by rw [hk], by rw [hk]; rfl⟩)
      · refine z_iload F dX6_changes_65 rfl ?_
        refine z_iload F dX6_changes_67 rfl ?_
        refine z_icmp_eqN F (by omega) (by omega) (tgt := 108) dX6_changes_69 (by decide) (fun c_69 => ?_) (fun c_69 => ?_)
        · have hk : chok (A 6) a b C1 E1 = false := chok_n1 (by first | exact Or.inl c_62 | exact Or.inr (Or.inl c_69) | exact Or.inr (Or.inr (Or.inl c_76)) | exact Or.inr (Or.inr (Or.inr (Or.inl c_83))) | exact Or.inr (Or.inr (Or.inr (Or.inr (Or.inl c_94)))) | exact Or.inr (Or.inr (Or.inr (Or.inr (Or.inr c_105)))))
          refine z_iconstB F false dX6_changes_108 rfl ?_
          exact z_zret F E rfl rfl dX6_changes_109 (by omega) (by omega) (⟨by rw [hk], by rw [hk]; rfl⟩)
        · refine z_iload F dX6_changes_72 rfl ?_
          refine z_iload F dX6_changes_74 rfl ?_
          refine z_icmp_eqN F (by omega) (by omega) (tgt := 108) dX6_changes_76 (by decide) (fun c_76 => ?_) (fun c_76 => ?_)
          · have hk : chok (A 6) a b C1 E1 = false := chok_n1 (by first | exact Or.inl c_62 | exact Or.inr (Or.inl c_69) | exact Or.inr (Or.inr (Or.inl c_76)) | exact Or.inr (Or.inr (Or.inr (Or.inl c_83))) | exact Or.inr (Or.inr (Or.inr (Or.inr (Or.inl c_94)))) | exact Or.inr (Or.inr (Or.inr (Or.inr (Or.inr c_105)))))
            refine z_iconstB F false dX6_changes_108 rfl ?_
            exact z_zret F E rfl rfl dX6_changes_109 (by omega) (by omega) (⟨by rw [hk], by rw [hk]; rfl⟩)
          · refine z_iload F dX6_changes_79 rfl ?_
            refine z_iload F dX6_changes_81 rfl ?_
            refine z_icmp_eqN F (by omega) (by omega) (tgt := 108) dX6_changes_83 (by decide) (fun c_83 => ?_) (fun c_83 => ?_)
            · have hk : chok (A 6) a b C1 E1 = false := chok_n1 (by first | exact Or.inl c_62 | exact Or.inr (Or.inl c_69) | exact Or.inr (Or.inr (Or.inl c_76)) | exact Or.inr (Or.inr (Or.inr (Or.inl c_83))) | exact Or.inr (Or.inr (Or.inr (Or.inr (Or.inl c_94)))) | exact Or.inr (Or.inr (Or.inr (Or.inr (Or.inr c_105)))))
              refine z_iconstB F false dX6_changes_108 rfl ?_
              exact z_zret F E rfl rfl dX6_changes_109 (by omega) (by omega) (⟨by rw [hk], by rw [hk]; rfl⟩)
            · refine z_aload_n F dX6_changes_86 rfl ?_
              refine z_iload F dX6_changes_87 rfl ?_
              refine z_iload F dX6_changes_89 rfl ?_
              refine z_callV F (c_isJoined _ _ _ _ a C1 (by omega) (by omega)) 2 rfl (lw_V q1748 q1750 qs46 q117 q1751) (by decide +kernel) ⟨Nat.le_of_ble_eq_true rfl, Nat.le_of_ble_eq_true rfl⟩ ⟨by omega, by omega⟩ [0, 1] 2 ⟨rfl, rfl, rfl, ⟨Or.inl rfl, Or.inr rfl, trivial⟩⟩ (fun h => nomatch h) (Nat.le_of_ble_eq_true rfl) ⟨⟨Or.inr trivial, Or.inl rfl, trivial⟩, rfl, rfl, rfl, Nat.le_of_ble_eq_true rfl⟩ rfl zC6 (zat_G0 rfl) rfl dX6_changes_91 (fun r_91 w_91 hp => ?_) (fun _ _ h => h.elim)
              obtain ⟨rfl, rfl⟩ := hp
              refine z_weq (w' := [zH, zG _ _ _ _]) rfl ?_
              refine z_seq (S' := zi _ :: _) rfl ?_
              refine z_if_neB F (tgt := 108) dX6_changes_94 (by decide) (fun c_94 => ?_) (fun c_94 => ?_)
              · have hk : chok (A 6) a b C1 E1 = false := chok_n1 (by first | exact Or.inl c_62 | exact Or.inr (Or.inl c_69) | exact Or.inr (Or.inr (Or.inl c_76)) | exact Or.inr (Or.inr (Or.inr (Or.inl c_83))) | exact Or.inr (Or.inr (Or.inr (Or.inr (Or.inl c_94)))) | exact Or.inr (Or.inr (Or.inr (Or.inr (Or.inr c_105)))))
                refine z_iconstB F false dX6_changes_108 rfl ?_
                exact z_zret F E rfl rfl dX6_changes_109 (by omega) (by omega) (⟨by rw [hk], by rw [hk]; rfl⟩)
              · refine z_aload_n F dX6_changes_97 rfl ?_
                refine z_iload F dX6_changes_98 rfl ?_
                refine z_iload F dX6_changes_100 rfl ?_
                refine z_callV F (c_isJoined _ _ _ _ b E1 (by omega) (by omega)) 2 rfl (lw_V q1748 q1750 qs46 q117 q1751) (by decide +kernel) ⟨Nat.le_of_ble_eq_true rfl, Nat.le_of_ble_eq_true rfl⟩ ⟨by omega, by omega⟩ [0, 1] 2 ⟨rfl, rfl, rfl, ⟨Or.inl rfl, Or.inr rfl, trivial⟩⟩ (fun h => nomatch h) (Nat.le_of_ble_eq_true rfl) ⟨⟨Or.inr trivial, Or.inl rfl, trivial⟩, rfl, rfl, rfl, Nat.le_of_ble_eq_true rfl⟩ rfl zC6 (zat_G0 rfl) rfl dX6_changes_102 (fun r_102 w_102 hp => ?_) (fun _ _ h => h.elim)
                obtain ⟨rfl, rfl⟩ := hp
                refine z_weq (w' := [zH, zG _ _ _ _]) rfl ?_
                refine z_seq (S' := zi _ :: _) rfl ?_
                refine z_if_eqB F (tgt := 110) dX6_changes_105 (by decide) (fun c_105 => ?_) (fun c_105 => ?_)
                · have hk : chok (A 6) a b C1 E1 = true := chok_y c_62 c_69 c_76 c_83 c_94 c_105
                  refine z_aload_n F dX6_changes_110 rfl ?_
                  refine z_iload F dX6_changes_111 rfl ?_
                  refine z_iload F dX6_changes_113 rfl ?_
                  refine z_callV F (c_parts _ _ _ _ a b (by omega) (by omega)) 2 rfl (lw_V q1763 q1765 qs48 q117 q1766) (by decide +kernel) ⟨Nat.le_of_ble_eq_true rfl, Nat.le_of_ble_eq_true rfl⟩ ⟨by omega, by omega⟩ [0, 1] 2 ⟨rfl, rfl, rfl, ⟨Or.inl rfl, Or.inr rfl, trivial⟩⟩ (fun h => nomatch h) (Nat.le_of_ble_eq_true rfl) ⟨⟨Or.inr trivial, Or.inl rfl, trivial⟩, rfl, rfl, rfl, Nat.le_of_ble_eq_true rfl⟩ rfl zC6 (zat_G0 rfl) rfl dX6_changes_115 (fun r_115 w_115 hp => ?_) (fun _ _ h => h.elim)
                  obtain ⟨rfl, rfl⟩ := hp
                  refine z_weq (w' := [zH, zG _ _ _ _]) rfl ?_
                  refine z_seq (S' := []) rfl ?_
                  refine z_aload_n F dX6_changes_118 rfl ?_
                  refine z_iload F dX6_changes_119 rfl ?_
                  refine z_iload F dX6_changes_121 rfl ?_
                  refine z_callV F (c_parts _ _ _ _ C1 E1 (by omega) (by omega)) 2 rfl (lw_V q1763 q1765 qs48 q117 q1766) (by decide +kernel) ⟨Nat.le_of_ble_eq_true rfl, Nat.le_of_ble_eq_true rfl⟩ ⟨by omega, by omega⟩ [0, 1] 2 ⟨rfl, rfl, rfl, ⟨Or.inl rfl, Or.inr rfl, trivial⟩⟩ (fun h => nomatch h) (Nat.le_of_ble_eq_true rfl) ⟨⟨Or.inr trivial, Or.inl rfl, trivial⟩, rfl, rfl, rfl, Nat.le_of_ble_eq_true rfl⟩ rfl zC6 (zat_G0 rfl) rfl dX6_changes_123 (fun r_123 w_123 hp => ?_) (fun _ _ h => h.elim)
                  obtain ⟨rfl, rfl⟩ := hp
                  rw [fA_at, fA_fA]
                  refine z_weq (w' := [zH, zG _ _ _ _]) rfl ?_
                  refine z_seq (S' := []) rfl ?_
                  refine z_aload_n F dX6_changes_126 rfl ?_
                  refine z_iload F dX6_changes_127 rfl ?_
                  refine z_iload F dX6_changes_129 rfl ?_
                  refine z_callV F (c_joins _ _ _ _ a C1 (by omega) (by omega)) 2 rfl (lw_V q1755 q1757 qs47 q117 q1758) (by decide +kernel) ⟨Nat.le_of_ble_eq_true rfl, Nat.le_of_ble_eq_true rfl⟩ ⟨by omega, by omega⟩ [0, 1] 2 ⟨rfl, rfl, rfl, ⟨Or.inl rfl, Or.inr rfl, trivial⟩⟩ (fun h => nomatch h) (Nat.le_of_ble_eq_true rfl) ⟨⟨Or.inr trivial, Or.inl rfl, trivial⟩, rfl, rfl, rfl, Nat.le_of_ble_eq_true rfl⟩ rfl zC6 (zat_G0 rfl) rfl dX6_changes_131 (fun r_131 w_131 hp => ?_) (fun _ _ h => h.elim)
                  obtain ⟨rfl, rfl⟩ := hp
                  rw [fA_at, fA_fA]
                  refine z_weq (w' := [zH, zG _ _ _ _]) rfl ?_
                  refine z_seq (S' := []) rfl ?_
                  refine z_aload_n F dX6_changes_134 rfl ?_
                  refine z_iload F dX6_changes_135 rfl ?_
                  refine z_iload F dX6_changes_137 rfl ?_
                  refine z_callV F (c_joins _ _ _ _ b E1 (by omega) (by omega)) 2 rfl (lw_V q1755 q1757 qs47 q117 q1758) (by decide +kernel) ⟨Nat.le_of_ble_eq_true rfl, Nat.le_of_ble_eq_true rfl⟩ ⟨by omega, by omega⟩ [0, 1] 2 ⟨rfl, rfl, rfl, ⟨Or.inl rfl, Or.inr rfl, trivial⟩⟩ (fun h => nomatch h) (Nat.le_of_ble_eq_true rfl) ⟨⟨Or.inr trivial, Or.inl rfl, trivial⟩, rfl, rfl, rfl, Nat.le_of_ble_eq_true rfl⟩ rfl zC6 (zat_G0 rfl) rfl dX6_changes_139 (fun r_139 w_139 hp => ?_) (fun _ _ h => h.elim)
                  obtain ⟨rfl, rfl⟩ := hp
                  rw [fA_at, fA_fA]
                  refine z_weq (w' := [zH, zG _ _ _ _]) rfl ?_
                  refine z_seq (S' := []) rfl ?_
                  refine z_iconstB F true dX6_changes_142 rfl ?_
                  exact z_zret F E rfl rfl dX6_changes_143 (by omega) (by omega) (⟨by rw [hk], by rw [hk, if_pos rfl]; rfl⟩)
                · have hk : chok (A 6) a b C1 E1 = false := chok_n1 (by first | exact Or.inl c_62 | exact Or.inr (Or.inl c_69) | exact Or.inr (Or.inr (Or.inl c_76)) | exact Or.inr (Or.inr (Or.inr (Or.inl c_83))) | exact Or.inr (Or.inr (Or.inr (Or.inr (Or.inl c_94)))) | exact Or.inr (Or.inr (Or.inr (Or.inr (Or.inr c_105)))))
                  refine z_iconstB F false dX6_changes_108 rfl ?_
                  exact z_zret F E rfl rfl dX6_changes_109 (by omega) (by omega) (⟨by rw [hk], by rw [hk]; rfl⟩)
theorem c_mbackG (F0 : Nat → Int32) (G : Nat → Int64) (A : Nat → Nat → Int32) (B : Nat → Nat → Int64) (a b c e : Nat) (ha : a < 24) (hb : b < 24) (hc : c < 24) (he : e < 24) :
    zCtr yX6_changesBack cX6_changesBack 5 none 1 0 0 [zr 1 0, zi (nI a), zi (nI b), zi (nI c), zi (nI e)] [zH, zG F0 G A B] (fun r w => r = none ∧ w = [zH, zG F0 G (fA A 6 (chb (A 6) a b c e)) B]) zNx := by
  refine z_start (by decide) [some (zr 1 0), some (zi (nI a)), some (zi (nI b)), some (zi (nI c)), some (zi (nI e))] rfl (fun _ => Nat.le_of_ble_eq_true rfl) (fun _ => rfl) (fun X F E hno hin => ?_)
  refine z_aload_n F dX6_changesBack_0 rfl ?_
  refine z_iload_n F dX6_changesBack_1 rfl ?_
  refine z_iload_n F dX6_changesBack_2 rfl ?_
  refine z_callV F (c_parts _ _ _ _ a c (by omega) (by omega)) 2 rfl (lw_V q1763 q1765 qs48 q117 q1766) (by decide +kernel) ⟨Nat.le_of_ble_eq_true rfl, Nat.le_of_ble_eq_true rfl⟩ ⟨by omega, by omega⟩ [0, 1] 2 ⟨rfl, rfl, rfl, ⟨Or.inl rfl, Or.inr rfl, trivial⟩⟩ (fun h => nomatch h) (Nat.le_of_ble_eq_true rfl) ⟨⟨Or.inr trivial, Or.inl rfl, trivial⟩, rfl, rfl, rfl, Nat.le_of_ble_eq_true rfl⟩ rfl zC6 (zat_G0 rfl) rfl dX6_changesBack_3 (fun r_3 w_3 hp => ?_) (fun _ _ h => h.elim)
  obtain ⟨rfl, rfl⟩ := hp
  refine z_weq (w' := [zH, zG _ _ _ _]) rfl ?_
  refine z_seq (S' := []) rfl ?_
  refine z_aload_n F dX6_changesBack_6 rfl ?_
  refine z_iload_n F dX6_changesBack_7 rfl ?_
  refine z_iload F dX6_changesBack_8 rfl ?_
  refine z_callV F (c_parts _ _ _ _ b e (by omega) (by omega)) 2 rfl (lw_V q1763 q1765 qs48 q117 q1766) (by decide +kernel) ⟨Nat.le_of_ble_eq_true rfl, Nat.le_of_ble_eq_true rfl⟩ ⟨by omega, by omega⟩ [0, 1] 2 ⟨rfl, rfl, rfl, ⟨Or.inl rfl, Or.inr rfl, trivial⟩⟩ (fun h => nomatch h) (Nat.le_of_ble_eq_true rfl) ⟨⟨Or.inr trivial, Or.inl rfl, trivial⟩, rfl, rfl, rfl, Nat.le_of_ble_eq_true rfl⟩ rfl zC6 (zat_G0 rfl) rfl dX6_changesBack_10 (fun r_10 w_10 hp => ?_) (fun _ _ h => h.elim)
  obtain ⟨rfl, rfl⟩ := hp
  rw [fA_at, fA_fA]
  refine z_weq (w' := [zH, zG _ _ _ _]) rfl ?_
  refine z_seq (S' := []) rfl ?_
  refine z_aload_n F dX6_changesBack_13 rfl ?_
  refine z_iload_n F dX6_changesBack_14 rfl ?_
  refine z_iload_n F dX6_changesBack_15 rfl ?_
  refine z_callV F (c_joins _ _ _ _ a b (by omega) (by omega)) 2 rfl (lw_V q1755 q1757 qs47 q117 q1758) (by decide +kernel) ⟨Nat.le_of_ble_eq_true rfl, Nat.le_of_ble_eq_true rfl⟩ ⟨by omega, by omega⟩ [0, 1] 2 ⟨rfl, rfl, rfl, ⟨Or.inl rfl, Or.inr rfl, trivial⟩⟩ (fun h => nomatch h) (Nat.le_of_ble_eq_true rfl) ⟨⟨Or.inr trivial, Or.inl rfl, trivial⟩, rfl, rfl, rfl, Nat.le_of_ble_eq_true rfl⟩ rfl zC6 (zat_G0 rfl) rfl dX6_changesBack_16 (fun r_16 w_16 hp => ?_) (fun _ _ h => h.elim)
  obtain ⟨rfl, rfl⟩ := hp
  rw [fA_at, fA_fA]
  refine z_weq (w' := [zH, zG _ _ _ _]) rfl ?_
  refine z_seq (S' := []) rfl ?_
  refine z_aload_n F dX6_changesBack_19 rfl ?_
  refine z_iload_n F dX6_changesBack_20 rfl ?_
  refine z_iload F dX6_changesBack_21 rfl ?_
  refine z_callV F (c_joins _ _ _ _ c e (by omega) (by omega)) 2 rfl (lw_V q1755 q1757 qs47 q117 q1758) (by decide +kernel) ⟨Nat.le_of_ble_eq_true rfl, Nat.le_of_ble_eq_true rfl⟩ ⟨by omega, by omega⟩ [0, 1] 2 ⟨rfl, rfl, rfl, ⟨Or.inl rfl, Or.inr rfl, trivial⟩⟩ (fun h => nomatch h) (Nat.le_of_ble_eq_true rfl) ⟨⟨Or.inr trivial, Or.inl rfl, trivial⟩, rfl, rfl, rfl, Nat.le_of_ble_eq_true rfl⟩ rfl zC6 (zat_G0 rfl) rfl dX6_changesBack_23 (fun r_23 w_23 hp => ?_) (fun _ _ h => h.elim)
  obtain ⟨rfl, rfl⟩ := hp
  rw [fA_at, fA_fA]
  refine z_weq (w' := [zH, zG _ _ _ _]) rfl ?_
  refine z_seq (S' := []) rfl ?_
  exact z_vret F E rfl dX6_changesBack_26 (by omega) (by omega) (⟨rfl, rfl⟩)
theorem chok_cong {f g : Nat → Int32} (h : ∀ k, k < 24 → g k = f k) {a b c e : Nat} (ha : a < 24) (hb : b < 24) : chok g a b c e = chok f a b c e := by
  unfold chok; rw [h a ha, h b hb]
theorem chg_cong {f g : Nat → Int32} (h : ∀ k, k < 24 → g k = f k) {a b c e : Nat} (ha : a < 24) (hb : b < 24) (hc : c < 24) (he : e < 24) : ∀ k, k < 24 → chg g a b c e k = chg f a b c e k :=
  fun k hk => jn_cong (fun k hk => jn_cong (fun k hk => pt_cong (fun k hk => pt_cong h ha hb hk) hc he hk) ha hc hk) hb he hk
theorem chb_cong {f g : Nat → Int32} (h : ∀ k, k < 24 → g k = f k) {a b c e : Nat} (ha : a < 24) (hb : b < 24) (hc : c < 24) (he : e < 24) : ∀ k, k < 24 → chb g a b c e k = chb f a b c e k :=
  fun k hk => jn_cong (fun k hk => jn_cong (fun k hk => pt_cong (fun k hk => pt_cong h ha hc hk) hb he hk) ha hb hk) hc he hk
theorem c_mchg (F0 : Nat → Int32) (G : Nat → Int64) (A : Nat → Nat → Int32) (B : Nat → Nat → Int64) (n d : Nat) (f : Nat → Int32) (i j : Nat) (cr : Bool) (h : nok n d f) (hE : LnE A (prs n f)) (hf : ∀ k, k < 24 → A 6 k = f k) (hi : i < (prs n f).length) (hj : j < (prs n f).length) :
    zCtr yX6_changes cX6_changes 8 (some .boolean) 1 0 0 [zr 1 0, zi (nI i), zi (nI j), zi (bI cr)] [zH, zG F0 G A B] (fun r w => r = some (zi (bI (cok n f i j cr))) ∧ w = [zH, zG F0 G (if cok n f i j cr then fA A 6 (chg (A 6) (la (prs n f) i) (lb (prs n f) i) (c3 (prs n f) j cr) (c4 (prs n f) j cr)) else A) B]) zNx := by
  have h24 := h.n24
  have h96 := prs_96 h
  obtain ⟨p1, p2, p3⟩ := prs_at hi
  obtain ⟨q1, q2, q3⟩ := prs_at hj
  have e : cok n f i j cr = chok (A 6) (la (prs n f) i) (lb (prs n f) i) (c3 (prs n f) j cr) (c4 (prs n f) j cr) := (chok_cong hf (by omega) (by omega)).symm
  rw [e]
  have ei : A 21 i = nI (la (prs n f) i) ∧ A 22 i = nI (lb (prs n f) i) := hE i hi
  have ej : A 21 j = nI (la (prs n f) j) ∧ A 22 j = nI (lb (prs n f) j) := hE j hj
  exact c_mchangesG F0 G A B i j _ _ _ _ _ _ cr (by omega) (by omega) ei.1 ei.2 ej.1 ej.2 (by omega) (by omega) (by omega) (by omega) c3_t c3_f
theorem c_mpriceOf (F0 : Nat → Int32) (G : Nat → Int64) (A : Nat → Nat → Int32) (B : Nat → Nat → Int64) (n d : Nat) (f : Nat → Int32) (i j : Nat) (cr : Bool) (h : nok n d f) (h4 : F0 4 = nI n) (hE : LnE A (prs n f)) (hf : ∀ k, k < 24 → A 6 k = f k) (hi : i < (prs n f).length) (hj : j < (prs n f).length) :
    zCtr yX6_priceOf cX6_priceOf 5 (some .int) 3 0 0 [zr 1 0, zi (nI i), zi (nI j), zi (bI cr)] [zH, zG F0 G A B] (fun r w => r = some (zi (if cok n f i j cr then nI (cpr n (cgo n f i j cr)) else -1)) ∧ ∃ F' A', w = [zH, zG F' G A' B] ∧ frm [24, 25] F0 F' ∧ frm [6, 23] A A' ∧ ∀ k, k < 24 → A' 6 k = f k) zNx := by
  refine z_start (by decide) [some (zr 1 0), some (zi (nI i)), some (zi (nI j)), some (zi (bI cr)), none] rfl (fun _ => Nat.le_of_ble_eq_true rfl) (fun _ => rfl) (fun X F E hno hin => ?_)
  have h24 := h.n24
  have h96 := prs_96 h
  obtain ⟨p1, p2, p3⟩ := prs_at hi
  obtain ⟨q1, q2, q3⟩ := prs_at hj
  obtain ⟨r1, r2, r3, r4⟩ := c34 h hj cr
  have ei : A 21 i = nI (la (prs n f) i) ∧ A 22 i = nI (lb (prs n f) i) := hE i hi
  have ej : A 21 j = nI (la (prs n f) j) ∧ A 22 j = nI (lb (prs n f) j) := hE j hj
  refine z_aload_n F dX6_priceOf_0 rfl ?_
  refine z_iload_n F dX6_priceOf_1 rfl ?_
  refine z_iload_n F dX6_priceOf_2 rfl ?_
  refine z_iload_n F dX6_priceOf_3 rfl ?_
  refine z_callV F (c_mchg _ _ _ _ n d f i j cr h hE hf hi hj) 3 rfl (lw_V q1949 q1951 qs74 q117 q1952) (by decide +kernel) ⟨Nat.le_of_ble_eq_true rfl, Nat.le_of_ble_eq_true rfl⟩ ⟨by omega, by omega⟩ [0, 1] 2 ⟨rfl, rfl, rfl, ⟨Or.inl rfl, Or.inr rfl, trivial⟩⟩ (fun h => nomatch h) (Nat.le_of_ble_eq_true rfl) ⟨⟨Or.inr trivial, Or.inl rfl, trivial⟩, rfl, rfl, rfl, Nat.le_of_ble_eq_true rfl⟩ rfl zC6 (zat_G0 rfl) rfl dX6_priceOf_4 (fun r_4 w_4 hp => ?_) (fun _ _ h => h.elim)
  obtain ⟨rfl, rfl⟩ := hp
  refine z_weq (w' := [zH, zG _ _ _ _]) rfl ?_
  refine z_seq (S' := zi _ :: _) rfl ?_
  refine z_if_neB F (tgt := 12) dX6_priceOf_7 (by decide) (fun c_7 => ?_) (fun c_7 => ?_)
  · obtain ⟨g1, g2, g3⟩ := cgo_ok h hi hj c_7
    have hcg := chg_cong hf (a := la (prs n f) i) (b := lb (prs n f) i) (c := c3 (prs n f) j cr) (e := c4 (prs n f) j cr) (by omega) (by omega) (by omega) (by omega)
    refine z_aload_n F dX6_priceOf_12 rfl ?_
    refine z_callV F (c_mprice _ _ _ _ n (cgo n f i j cr) h24 h4 (fun k hk => by rw [if_pos c_7, fA_at]; exact hcg k (by omega))) 0 rfl (lw_V q1916 q1918 qs71 q117 q1919) (by decide +kernel) ⟨Nat.le_of_ble_eq_true rfl, Nat.le_of_ble_eq_true rfl⟩ ⟨by omega, by omega⟩ [0, 1] 2 ⟨rfl, rfl, rfl, ⟨Or.inl rfl, Or.inr rfl, trivial⟩⟩ (fun h => nomatch h) (Nat.le_of_ble_eq_true rfl) ⟨⟨Or.inr trivial, Or.inl rfl, trivial⟩, rfl, rfl, rfl, Nat.le_of_ble_eq_true rfl⟩ rfl zC6 (zat_G0 rfl) rfl dX6_priceOf_13 (fun r_13 w_13 hp => ?_) (fun _ _ h => h.elim)
    obtain ⟨rfl, F2, A2, rfl, a1, a2⟩ := hp
    rw [if_pos c_7] at a2
    refine z_weq (w' := [zH, zG _ _ _ _]) rfl ?_
    refine z_seq (S' := zi _ :: _) rfl ?_
    refine z_istore F dX6_priceOf_16 (Nat.le_of_ble_eq_true rfl) ?_
    refine z_leq (L' := [_, _, _, _, _]) rfl ?_
    refine z_aload_n F dX6_priceOf_18 rfl ?_
    refine z_aload_n F dX6_priceOf_19 rfl ?_
    refine z_ma F rfl 21 rfl (Nat.le_of_ble_eq_true rfl) rfl q1501 dX6_priceOf_20 ?_
    refine z_iload_n F dX6_priceOf_23 rfl ?_
    refine z_ialdGN F rfl rfl (Nat.le_of_ble_eq_true rfl) (by omega) rfl dX6_priceOf_24 ?_
    refine z_ieq ((congrFun ((a2.at 21 rfl).trans (fA_ne (by decide))) _).trans ei.1) ?_
    refine z_aload_n F dX6_priceOf_25 rfl ?_
    refine z_ma F rfl 22 rfl (Nat.le_of_ble_eq_true rfl) rfl q1502 dX6_priceOf_26 ?_
    refine z_iload_n F dX6_priceOf_29 rfl ?_
    refine z_ialdGN F rfl rfl (Nat.le_of_ble_eq_true rfl) (by omega) rfl dX6_priceOf_30 ?_
    refine z_ieq ((congrFun ((a2.at 22 rfl).trans (fA_ne (by decide))) _).trans ei.2) ?_
    refine z_iload_n F dX6_priceOf_31 rfl ?_
    refine z_if_eqB F (tgt := 44) dX6_priceOf_32 (by decide) (fun c_32 => ?_) (fun c_32 => ?_)
    · refine z_aload_n F dX6_priceOf_44 rfl ?_
      refine z_ma F rfl 21 rfl (Nat.le_of_ble_eq_true rfl) rfl q1501 dX6_priceOf_45 ?_
      refine z_iload_n F dX6_priceOf_48 rfl ?_
      refine z_ialdGN F rfl rfl (Nat.le_of_ble_eq_true rfl) (by omega) rfl dX6_priceOf_49 ?_
      refine z_ieq ((congrFun ((a2.at 21 rfl).trans (fA_ne (by decide))) _).trans ej.1) ?_
      refine z_iload_n F dX6_priceOf_50 rfl ?_
      refine z_if_eqB F (tgt := 63) dX6_priceOf_51 (by decide) (fun c_51 => ?_) (fun c_51 => ?_)
      · refine z_aload_n F dX6_priceOf_63 rfl ?_
        refine z_ma F rfl 22 rfl (Nat.le_of_ble_eq_true rfl) rfl q1502 dX6_priceOf_64 ?_
        refine z_iload_n F dX6_priceOf_67 rfl ?_
        refine z_ialdGN F rfl rfl (Nat.le_of_ble_eq_true rfl) (by omega) rfl dX6_priceOf_68 ?_
        refine z_ieq ((congrFun ((a2.at 22 rfl).trans (fA_ne (by decide))) _).trans ej.2) ?_
        refine z_callV F (c_mbackG _ _ _ _ (la (prs n f) i) (lb (prs n f) i) (la (prs n f) j) (lb (prs n f) j) (by omega) (by omega) (by omega) (by omega)) 4 rfl (lw_V q1965 q1967 qs77 q117 q1968) (by decide +kernel) ⟨Nat.le_of_ble_eq_true rfl, Nat.le_of_ble_eq_true rfl⟩ ⟨by omega, by omega⟩ [0, 1] 2 ⟨rfl, rfl, rfl, ⟨Or.inl rfl, Or.inr rfl, trivial⟩⟩ (fun h => nomatch h) (Nat.le_of_ble_eq_true rfl) ⟨⟨Or.inr trivial, Or.inl rfl, trivial⟩, rfl, rfl, rfl, Nat.le_of_ble_eq_true rfl⟩ rfl zC6 (zat_G0 rfl) rfl dX6_priceOf_69 (fun r_69 w_69 hp => ?_) (fun _ _ h => h.elim)
        obtain ⟨rfl, rfl⟩ := hp
        refine z_weq (w' := [zH, zG _ _ _ _]) rfl ?_
        refine z_seq (S' := []) rfl ?_
        refine z_iload F dX6_priceOf_72 rfl ?_
        exact z_iret F E rfl dX6_priceOf_74 (by omega) (by omega) (⟨by rw [c_7, if_pos rfl, mpr_eq h24 (fun a b ha hb => g1.sym ha hb)], F2, _, rfl, a1, fun q hq => by
  rw [fA_ne (fun e => hq (by rw [e]; decide)), a2 q (fun e => hq (by simp at e; rw [e]; decide)), fA_ne (fun e => hq (by rw [e]; decide))], fun k hk => by
  rw [fA_at, a2.at 6 rfl, fA_at]
  have e1 := chb_cong hcg (a := la (prs n f) i) (b := lb (prs n f) i) (c := c3 (prs n f) j cr) (e := c4 (prs n f) j cr) (by omega) (by omega) (by omega) (by omega) k hk
  have e3 := e1.trans (congrFun g3 k)
  first | (rw [(c3_t c_32).1, (c3_t c_32).2] at e3 ⊢; exact e3) | (rw [(c3_f c_32).1, (c3_f c_32).2] at e3 ⊢; exact e3)⟩)
      · rw [c_32] at c_51; cases c_51
    · refine z_aload_n F dX6_priceOf_35 rfl ?_
      refine z_ma F rfl 22 rfl (Nat.le_of_ble_eq_true rfl) rfl q1502 dX6_priceOf_36 ?_
      refine z_iload_n F dX6_priceOf_39 rfl ?_
      refine z_ialdGN F rfl rfl (Nat.le_of_ble_eq_true rfl) (by omega) rfl dX6_priceOf_40 ?_
      refine z_ieq ((congrFun ((a2.at 22 rfl).trans (fA_ne (by decide))) _).trans ej.2) ?_
      refine z_goto F (tgt := 50) dX6_priceOf_41 (by decide) ?_
      refine z_iload_n F dX6_priceOf_50 rfl ?_
      refine z_if_eqB F (tgt := 63) dX6_priceOf_51 (by decide) (fun c_51 => ?_) (fun c_51 => ?_)
      · rw [c_32] at c_51; cases c_51
      · refine z_aload_n F dX6_priceOf_54 rfl ?_
        refine z_ma F rfl 21 rfl (Nat.le_of_ble_eq_true rfl) rfl q1501 dX6_priceOf_55 ?_
        refine z_iload_n F dX6_priceOf_58 rfl ?_
        refine z_ialdGN F rfl rfl (Nat.le_of_ble_eq_true rfl) (by omega) rfl dX6_priceOf_59 ?_
        refine z_ieq ((congrFun ((a2.at 21 rfl).trans (fA_ne (by decide))) _).trans ej.1) ?_
        refine z_goto F (tgt := 69) dX6_priceOf_60 (by decide) ?_
        refine z_callV F (c_mbackG _ _ _ _ (la (prs n f) i) (lb (prs n f) i) (lb (prs n f) j) (la (prs n f) j) (by omega) (by omega) (by omega) (by omega)) 4 rfl (lw_V q1965 q1967 qs77 q117 q1968) (by decide +kernel) ⟨Nat.le_of_ble_eq_true rfl, Nat.le_of_ble_eq_true rfl⟩ ⟨by omega, by omega⟩ [0, 1] 2 ⟨rfl, rfl, rfl, ⟨Or.inl rfl, Or.inr rfl, trivial⟩⟩ (fun h => nomatch h) (Nat.le_of_ble_eq_true rfl) ⟨⟨Or.inr trivial, Or.inl rfl, trivial⟩, rfl, rfl, rfl, Nat.le_of_ble_eq_true rfl⟩ rfl zC6 (zat_G0 rfl) rfl dX6_priceOf_69 (fun r_69 w_69 hp => ?_) (fun _ _ h => h.elim)
        obtain ⟨rfl, rfl⟩ := hp
        refine z_weq (w' := [zH, zG _ _ _ _]) rfl ?_
        refine z_seq (S' := []) rfl ?_
        refine z_iload F dX6_priceOf_72 rfl ?_
        exact z_iret F E rfl dX6_priceOf_74 (by omega) (by omega) (⟨by rw [c_7, if_pos rfl, mpr_eq h24 (fun a b ha hb => g1.sym ha hb)], F2, _, rfl, a1, fun q hq => by
  rw [fA_ne (fun e => hq (by rw [e]; decide)), a2 q (fun e => hq (by simp at e; rw [e]; decide)), fA_ne (fun e => hq (by rw [e]; decide))], fun k hk => by
  rw [fA_at, a2.at 6 rfl, fA_at]
  have e1 := chb_cong hcg (a := la (prs n f) i) (b := lb (prs n f) i) (c := c3 (prs n f) j cr) (e := c4 (prs n f) j cr) (by omega) (by omega) (by omega) (by omega) k hk
  have e3 := e1.trans (congrFun g3 k)
  first | (rw [(c3_t c_32).1, (c3_t c_32).2] at e3 ⊢; exact e3) | (rw [(c3_f c_32).1, (c3_f c_32).2] at e3 ⊢; exact e3)⟩)
  · refine z_iconst F (-1) dX6_priceOf_10 rfl ?_
    exact z_iret F E rfl dX6_priceOf_11 (by omega) (by omega) (⟨by rw [c_7]; rfl, F0, A, by rw [c_7]; rfl, frm.rf, frm.rf, hf⟩)
end C53
