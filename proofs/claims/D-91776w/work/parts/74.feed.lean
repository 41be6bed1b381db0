/-! feed -/
section C74
abbrev xT (P : zPt) (t : Nat) (fp : Int32) (T : Nat → Int32) : List zE := [zPl (pR P) P, xO t fp, zAi 3 400 T, zH, zH, zH, zH, zH, zH, zH, zH, zH, zH, zH, zH, zH, zH, zH, zH, zH, zH, zH]
theorem fdw_0 {a b c d e : Int32} {i : Nat} (h : i < 4) : fdw a b c d e (i / 4) = a := by unfold fdw; rw [if_pos (by omega)]
theorem fdw_1 {a b c d e : Int32} {i : Nat} (h1 : 4 ≤ i) (h : i < 8) : fdw a b c d e (i / 4) = b := by unfold fdw; rw [if_neg (by omega), if_pos (by omega)]
theorem fdw_2 {a b c d e : Int32} {i : Nat} (h1 : 8 ≤ i) (h : i < 12) : fdw a b c d e (i / 4) = c := by unfold fdw; rw [if_neg (by omega), if_neg (by omega), if_pos (by omega)]
theorem fdw_3 {a b c d e : Int32} {i : Nat} (h1 : 12 ≤ i) (h : i < 16) : fdw a b c d e (i / 4) = d := by unfold fdw; rw [if_neg (by omega), if_neg (by omega), if_neg (by omega), if_pos (by omega)]
theorem fdw_4 {a b c d e : Int32} {i : Nat} (h1 : 16 ≤ i) : fdw a b c d e (i / 4) = e := by unfold fdw; rw [if_neg (by omega), if_neg (by omega), if_neg (by omega), if_neg (by omega)]
theorem fd_v {a b c d e w : Int32} {i : Nat} (h : fdw a b c d e (i / 4) = w) : vp_nar .byte ((w >>> (nI (24 - 8 * (i % 4)) &&& 31)).toInt8.toInt32) = bsg (fdB a b c d e i) := by
  subst h
  exact bsg_bsg _
theorem c_pfeed (P : zPt) (t : Nat) (fp : Int32) (T : Nat → Int32) (a b c d e : Int32) (ht : t + 20 ≤ 400) : zCtr yX1_feed cX1_feed 8 (some .int) 8 3 18 [zr 1 0, zi a, zi b, zi c, zi d, zi e] (xT P t fp T) (fun r w => r = some (zi (nI (t + 20))) ∧ ∃ T', w = xT P (t + 20) fp T' ∧ ∀ k, T' k = if t ≤ k ∧ k < t + 20 then bsg (fdB a b c d e (k - t)) else T k) zNx := by
  refine z_start (by decide) [some (zr 1 0), some (zi a), some (zi b), some (zi c), some (zi d), some (zi e), none, none] rfl (fun _ => Nat.le_of_ble_eq_true rfl) (fun _ => rfl) (fun X F E hno hin => ?_)
  have loop : ∀ (m i : Nat) (T1 : Nat → Int32), 20 - i < m → i ≤ 20 → (∀ k, T1 k = if t ≤ k ∧ k < t + i then bsg (fdB a b c d e (k - t)) else T k) → Z X [some (zr 1 0), some (zi a), some (zi b), some (zi c), some (zi d), some (zi e), some (zi (nI i)), none] [] (xT P t fp T1) 0 0 18 := by
    intro m
    induction m with
    | zero => intro i T1 hm; omega
    | succ m ih =>
      intro i T1 hm hi hT
      have nxt : ∀ v, i < 20 → v = bsg (fdB a b c d e i) → Z X [some (zr 1 0), some (zi a), some (zi b), some (zi c), some (zi d), some (zi e), some (zi (nI (i + 1))), none] [] (xT P t fp (upd T1 (t + i) v)) 0 0 18 := fun v hi2 hv => ih (i + 1) _ (by omega) (by omega) (fun k => by
        rw [upd_at]
        by_cases q : k = t + i
        · rw [if_pos q, if_pos (by omega), hv, show k - t = i by omega]
        · rw [if_neg q, hT k]
          by_cases q2 : t ≤ k ∧ k < t + i
          · rw [if_pos q2, if_pos (by omega)]
          · rw [if_neg q2, if_neg (by omega)])
      refine z_iload F dX1_feed_18 rfl ?_
      refine z_bipush F (nI 20) dX1_feed_20 rfl ?_
      refine z_icmp_geN F (by omega) (by omega) (tgt := 105) dX1_feed_22 (by decide) (fun c_22 => ?_) (fun c_22 => ?_)
      · refine z_aload_n F dX1_feed_105 rfl ?_
        refine z_dup F dX1_feed_106 rfl ?_
        refine z_get F zC1 (f := 5) rfl (Nat.le_of_ble_eq_true rfl) q319 rfl dX1_feed_107 ?_
        refine z_bipush F (nI 20) dX1_feed_110 rfl ?_
        refine z_iaddN F dX1_feed_112 ?_
        refine z_put F zC1 (f := 5) rfl (Nat.le_of_ble_eq_true rfl) q319 rfl (fun _ => rfl) (fun _ => rfl) (Nat.le_of_ble_eq_true rfl) dX1_feed_113 ?_
        refine z_weq (w' := [_, zO _ [_, _, _, _, _, _, _, _, _], _, _, _, _, _, _, _, _, _, _, _, _, _, _, _, _, _, _, _, _]) rfl ?_
        refine z_aload_n F dX1_feed_116 rfl ?_
        refine z_get F zC1 (f := 5) rfl (Nat.le_of_ble_eq_true rfl) q319 rfl dX1_feed_117 ?_
        exact z_iret F E rfl dX1_feed_120 (by omega) (by omega) (⟨rfl, T1, rfl, fun k => by rw [hT k, show i = 20 by omega]⟩)
      · refine z_iload F dX1_feed_25 rfl ?_
        refine z_iconst F (nI 4) dX1_feed_27 rfl ?_
        refine z_icmp_geN F (by omega) (by omega) (tgt := 35) dX1_feed_28 (by decide) (fun c_28 => ?_) (fun c_28 => ?_)
        · refine z_iload F dX1_feed_35 rfl ?_
          refine z_bipush F (nI 8) dX1_feed_37 rfl ?_
          refine z_icmp_geN F (by omega) (by omega) (tgt := 46) dX1_feed_39 (by decide) (fun c_39 => ?_) (fun c_39 => ?_)
          · refine z_iload F dX1_feed_46 rfl ?_
            refine z_bipush F (nI 12) dX1_feed_48 rfl ?_
            refine z_icmp_geN F (by omega) (by omega) (tgt := 57) dX1_feed_50 (by decide) (fun c_50 => ?_) (fun c_50 => ?_)
            · refine z_iload F dX1_feed_57 rfl ?_
              refine z_bipush F (nI 16) dX1_feed_59 rfl ?_
              refine z_icmp_geN F (by omega) (by omega) (tgt := 69) dX1_feed_61 (by decide) (fun c_61 => ?_) (fun c_61 => ?_)
              · refine z_iload F dX1_feed_69 rfl ?_
                refine z_istore F dX1_feed_71 (Nat.le_of_ble_eq_true rfl) ?_
                refine z_leq (L' := [_, _, _, _, _, _, _, _]) rfl ?_
                refine z_aload_n F dX1_feed_73 rfl ?_
                refine z_get F zC1 (f := 1) rfl (Nat.le_of_ble_eq_true rfl) q315 rfl dX1_feed_74 ?_
                refine z_aload_n F dX1_feed_77 rfl ?_
                refine z_get F zC1 (f := 5) rfl (Nat.le_of_ble_eq_true rfl) q319 rfl dX1_feed_78 ?_
                refine z_iload F dX1_feed_81 rfl ?_
                refine z_iaddN F dX1_feed_83 ?_
                refine z_iload F dX1_feed_84 rfl ?_
                refine z_bipush F (nI 24) dX1_feed_86 rfl ?_
                refine z_bipush F (nI 8) dX1_feed_88 rfl ?_
                refine z_iload F dX1_feed_90 rfl ?_
                refine z_iconst F (nI 4) dX1_feed_92 rfl ?_
                refine z_iremN F (by omega) (by omega) (by omega) dX1_feed_93 ?_
                refine z_imulN F dX1_feed_94 ?_
                refine z_isubN F (by omega) dX1_feed_95 ?_
                refine z_ishr F dX1_feed_96 ?_
                refine z_i2b F dX1_feed_97 ?_
                refine z_bastN F rfl (Nat.le_of_ble_eq_true rfl) (by omega) dX1_feed_98 ?_
                refine z_weq (w' := [_, _, _, _, _, _, _, _, _, _, _, _, _, _, _, _, _, _, _, _, _, _]) rfl ?_
                refine z_iincN F 1 dX1_feed_99 rfl rfl ?_
                refine z_leq (L' := [_, _, _, _, _, _, _, _]) rfl ?_
                refine z_goto F (tgt := 18) dX1_feed_102 (by decide) ?_
                refine z_loc _ ?_ (nxt _ (by omega) (fd_v (by first | exact fdw_0 (by omega) | exact fdw_1 (by omega) (by omega) | exact fdw_2 (by omega) (by omega) | exact fdw_3 (by omega) (by omega) | exact fdw_4 (by omega))))
                exact ⟨rfl, rfl, rfl, rfl, rfl, rfl, rfl, trivial⟩
              · refine z_iload F dX1_feed_64 rfl ?_
                refine z_goto F (tgt := 71) dX1_feed_66 (by decide) ?_
                refine z_istore F dX1_feed_71 (Nat.le_of_ble_eq_true rfl) ?_
                refine z_leq (L' := [_, _, _, _, _, _, _, _]) rfl ?_
                refine z_aload_n F dX1_feed_73 rfl ?_
                refine z_get F zC1 (f := 1) rfl (Nat.le_of_ble_eq_true rfl) q315 rfl dX1_feed_74 ?_
                refine z_aload_n F dX1_feed_77 rfl ?_
                refine z_get F zC1 (f := 5) rfl (Nat.le_of_ble_eq_true rfl) q319 rfl dX1_feed_78 ?_
                refine z_iload F dX1_feed_81 rfl ?_
                refine z_iaddN F dX1_feed_83 ?_
                refine z_iload F dX1_feed_84 rfl ?_
                refine z_bipush F (nI 24) dX1_feed_86 rfl ?_
                refine z_bipush F (nI 8) dX1_feed_88 rfl ?_
                refine z_iload F dX1_feed_90 rfl ?_
                refine z_iconst F (nI 4) dX1_feed_92 rfl ?_
                refine z_iremN F (by omega) (by omega) (by omega) dX1_feed_93 ?_
                refine z_imulN F dX1_feed_94 ?_
                refine z_isubN F (by omega) dX1_feed_95 ?_
                refine z_ishr F dX1_feed_96 ?_
                refine z_i2b F dX1_feed_97 ?_
                refine z_bastN F rfl (Nat.le_of_ble_eq_true rfl) (by omega) dX1_feed_98 ?_
                refine z_weq (w' := [_, _, _, _, _, _, _, _, _, _, _, _, _, _, _, _, _, _, _, _, _, _]) rfl ?_
                refine z_iincN F 1 dX1_feed_99 rfl rfl ?_
                refine z_leq (L' := [_, _, _, _, _, _, _, _]) rfl ?_
                refine z_goto F (tgt := 18) dX1_feed_102 (by decide) ?_
                refine z_loc _ ?_ (nxt _ (by omega) (fd_v (by first | exact fdw_0 (by omega) | exact fdw_1 (by omega) (by omega) | exact fdw_2 (by omega) (by omega) | exact fdw_3 (by omega) (by omega) | exact fdw_4 (by omega))))
                exact ⟨rfl, rfl, rfl, rfl, rfl, rfl, rfl, trivial⟩
            · refine z_iload_n F dX1_feed_53 rfl ?_
              refine z_goto F (tgt := 71) dX1_feed_54 (by decide) ?_
              refine z_istore F dX1_feed_71 (Nat.le_of_ble_eq_true rfl) ?_
              refine z_leq (L' := [_, _, _, _, _, _, _, _]) rfl ?_
              refine z_aload_n F dX1_feed_73 rfl ?_
              refine z_get F zC1 (f := 1) rfl (Nat.le_of_ble_eq_true rfl) q315 rfl dX1_feed_74 ?_
              refine z_aload_n F dX1_feed_77 rfl ?_
              refine z_get F zC1 (f := 5) rfl (Nat.le_of_ble_eq_true rfl) q319 rfl dX1_feed_78 ?_
              refine z_iload F dX1_feed_81 rfl ?_
              refine z_iaddN F dX1_feed_83 ?_
              refine z_iload F dX1_feed_84 rfl ?_
              refine z_bipush F (nI 24) dX1_feed_86 rfl ?_
              refine z_bipush F (nI 8) dX1_feed_88 rfl ?_
              refine z_iload F dX1_feed_90 rfl ?_
              refine z_iconst F (nI 4) dX1_feed_92 rfl ?_
              refine z_iremN F (by omega) (by omega) (by omega) dX1_feed_93 ?_
              refine z_imulN F dX1_feed_94 ?_
              refine z_isubN F (by omega) dX1_feed_95 ?_
              refine z_ishr F dX1_feed_96 ?_
              refine z_i2b F dX1_feed_97 ?_
              refine z_bastN F rfl (Nat.le_of_ble_eq_true rfl) (by omega) dX1_feed_98 ?_
              refine z_weq (w' := [_, _, _, _, _, _, _, _, _, _, _, _, _, _, _, _, _, _, _, _, _, _]) rfl ?_
              refine z_iincN F 1 dX1_feed_99 rfl rfl ?_
              refine z_leq (L' := [_, _, _, _, _, _, _, _]) rfl ?_
              refine z_goto F (tgt := 18) dX1_feed_102 (by decide) ?_
              refine z_loc _ ?_ (nxt _ (by omega) (fd_v (by first | exact fdw_0 (by omega) | exact fdw_1 (by omega) (by omega) | exact fdw_2 (by omega) (by omega) | exact fdw_3 (by omega) (by omega) | exact fdw_4 (by omega))))
              exact ⟨rfl, rfl, rfl, rfl, rfl, rfl, rfl, trivial⟩
          · refine z_iload_n F dX1_feed_42 rfl ?_
            refine z_goto F (tgt := 71) dX1_feed_43 (by decide) ?_
            refine z_istore F dX1_feed_71 (Nat.le_of_ble_eq_true rfl) ?_
            refine z_leq (L' := [_, _, _, _, _, _, _, _]) rfl ?_
            refine z_aload_n F dX1_feed_73 rfl ?_
            refine z_get F zC1 (f := 1) rfl (Nat.le_of_ble_eq_true rfl) q315 rfl dX1_feed_74 ?_
            refine z_aload_n F dX1_feed_77 rfl ?_
            refine z_get F zC1 (f := 5) rfl (Nat.le_of_ble_eq_true rfl) q319 rfl dX1_feed_78 ?_
            refine z_iload F dX1_feed_81 rfl ?_
            refine z_iaddN F dX1_feed_83 ?_
            refine z_iload F dX1_feed_84 rfl ?_
            refine z_bipush F (nI 24) dX1_feed_86 rfl ?_
            refine z_bipush F (nI 8) dX1_feed_88 rfl ?_
            refine z_iload F dX1_feed_90 rfl ?_
            refine z_iconst F (nI 4) dX1_feed_92 rfl ?_
            refine z_iremN F (by omega) (by omega) (by omega) dX1_feed_93 ?_
            refine z_imulN F dX1_feed_94 ?_
            refine z_isubN F (by omega) dX1_feed_95 ?_
            refine z_ishr F dX1_feed_96 ?_
            refine z_i2b F dX1_feed_97 ?_
            refine z_bastN F rfl (Nat.le_of_ble_eq_true rfl) (by omega) dX1_feed_98 ?_
            refine z_weq (w' := [_, _, _, _, _, _, _, _, _, _, _, _, _, _, _, _, _, _, _, _, _, _]) rfl ?_
            refine z_iincN F 1 dX1_feed_99 rfl rfl ?_
            refine z_leq (L' := [_, _, _, _, _, _, _, _]) rfl ?_
            refine z_goto F (tgt := 18) dX1_feed_102 (by decide) ?_
            refine z_loc _ ?_ (nxt _ (by omega) (fd_v (by first | exact fdw_0 (by omega) | exact fdw_1 (by omega) (by omega) | exact fdw_2 (by omega) (by omega) | exact fdw_3 (by omega) (by omega) | exact fdw_4 (by omega))))
            exact ⟨rfl, rfl, rfl, rfl, rfl, rfl, rfl, trivial⟩
        · refine z_iload_n F dX1_feed_31 rfl ?_
          refine z_goto F (tgt := 71) dX1_feed_32 (by decide) ?_
          refine z_istore F dX1_feed_71 (Nat.le_of_ble_eq_true rfl) ?_
          refine z_leq (L' := [_, _, _, _, _, _, _, _]) rfl ?_
          refine z_aload_n F dX1_feed_73 rfl ?_
          refine z_get F zC1 (f := 1) rfl (Nat.le_of_ble_eq_true rfl) q315 rfl dX1_feed_74 ?_
          refine z_aload_n F dX1_feed_77 rfl ?_
          refine z_get F zC1 (f := 5) rfl (Nat.le_of_ble_eq_true rfl) q319 rfl dX1_feed_78 ?_
          refine z_iload F dX1_feed_81 rfl ?_
          refine z_iaddN F dX1_feed_83 ?_
          refine z_iload F dX1_feed_84 rfl ?_
          refine z_bipush F (nI 24) dX1_feed_86 rfl ?_
          refine z_bipush F (nI 8) dX1_feed_88 rfl ?_
          refine z_iload F dX1_feed_90 rfl ?_
          refine z_iconst F (nI 4) dX1_feed_92 rfl ?_
          refine z_iremN F (by omega) (by omega) (by omega) dX1_feed_93 ?_
          refine z_imulN F dX1_feed_94 ?_
          refine z_isubN F (by omega) dX1_feed_95 ?_
          refine z_ishr F dX1_feed_96 ?_
          refine z_i2b F dX1_feed_97 ?_
          refine z_bastN F rfl (Nat.le_of_ble_eq_true rfl) (by omega) dX1_feed_98 ?_
          refine z_weq (w' := [_, _, _, _, _, _, _, _, _, _, _, _, _, _, _, _, _, _, _, _, _, _]) rfl ?_
          refine z_iincN F 1 dX1_feed_99 rfl rfl ?_
          refine z_leq (L' := [_, _, _, _, _, _, _, _]) rfl ?_
          refine z_goto F (tgt := 18) dX1_feed_102 (by decide) ?_
          refine z_loc _ ?_ (nxt _ (by omega) (fd_v (by first | exact fdw_0 (by omega) | exact fdw_1 (by omega) (by omega) | exact fdw_2 (by omega) (by omega) | exact fdw_3 (by omega) (by omega) | exact fdw_4 (by omega))))
          exact ⟨rfl, rfl, rfl, rfl, rfl, rfl, rfl, trivial⟩
  refine z_aload_n F dX1_feed_0 rfl ?_
  refine z_get F zC1 (f := 5) rfl (Nat.le_of_ble_eq_true rfl) q319 rfl dX1_feed_1 ?_
  refine z_bipush F (nI 20) dX1_feed_4 rfl ?_
  refine z_iaddN F dX1_feed_6 ?_
  refine z_sipush F (nI 400) dX1_feed_7 rfl ?_
  refine z_icmp_leN F (by omega) (by omega) (tgt := 15) dX1_feed_10 (by decide) (fun c_10 => ?_) (fun c_10 => ?_)
  · refine z_iconst F (nI 0) dX1_feed_15 rfl ?_
    refine z_istore F dX1_feed_16 (Nat.le_of_ble_eq_true rfl) ?_
    refine z_leq (L' := [_, _, _, _, _, _, _, _]) rfl ?_
    exact loop 21 0 T (by omega) (by omega) (fun k => by rw [if_neg (by omega)])
  · exact absurd c_10 (by omega)
theorem c_pfeed_full (P : zPt) (t : Nat) (fp : Int32) (T : Nat → Int32) (a b c d e : Int32) (h4 : t ≤ 400) (ht : 400 < t + 20) : zCtr yX1_feed cX1_feed 8 (some .int) 8 3 18 [zr 1 0, zi a, zi b, zi c, zi d, zi e] (xT P t fp T) (fun r w => r = some (zi (-1)) ∧ w = xT P t fp T) zNx := by
  refine z_start (by decide) [some (zr 1 0), some (zi a), some (zi b), some (zi c), some (zi d), some (zi e), none, none] rfl (fun _ => Nat.le_of_ble_eq_true rfl) (fun _ => rfl) (fun X F E hno hin => ?_)
  refine z_aload_n F dX1_feed_0 rfl ?_
  refine z_get F zC1 (f := 5) rfl (Nat.le_of_ble_eq_true rfl) q319 rfl dX1_feed_1 ?_
  refine z_bipush F (nI 20) dX1_feed_4 rfl ?_
  refine z_iaddN F dX1_feed_6 ?_
  refine z_sipush F (nI 400) dX1_feed_7 rfl ?_
  refine z_icmp_leN F (by omega) (by omega) (tgt := 15) dX1_feed_10 (by decide) (fun c_10 => ?_) (fun c_10 => ?_)
  · exact absurd c_10 (by omega)
  · refine z_iconst F (-1) dX1_feed_13 rfl ?_
    exact z_iret F E rfl dX1_feed_14 (by omega) (by omega) (⟨rfl, rfl⟩)
theorem lo_inc : ∀ q, q < 4 → nI (24 - 8 * q) + Int32.ofInt (-8) = if q + 1 < 4 then nI (24 - 8 * (q + 1)) else -8 := by decide
theorem c_mputs (F0 : Nat → Int32) (G : Nat → Int64) (A : Nat → Nat → Int32) (B : Nat → Nat → Int64) (t : Nat) (x : Int32) (hF : F0 8 = nI t) (ht : t + 4 ≤ 400) :
    zCtr yX6_puts cX6_puts 3 none 0 0 0 [zr 1 0, zi x] [zH, zG F0 G A B] (fun r w => r = none ∧ ∃ F' A', w = [zH, zG F' G A' B] ∧ F' 8 = nI (t + 4) ∧ frm [8] F0 F' ∧ frm [7] A A' ∧ ∀ k, A' 7 k = if t ≤ k ∧ k < t + 4 then (x >>> (nI (24 - 8 * (k - t)) &&& 31)) &&& nI 255 else A 7 k) zNx := by
  refine z_start (by decide) [some (zr 1 0), some (zi x), none] rfl (fun _ => Nat.le_of_ble_eq_true rfl) (fun _ => rfl) (fun X F E hno hin => ?_)
  have loop : ∀ (m q : Nat) (F1 : Nat → Int32) (A1 : Nat → Nat → Int32), 4 - q < m → q ≤ 4 → F1 8 = nI (t + q) → frm [8] F0 F1 → frm [7] A A1 → (∀ k, A1 7 k = if t ≤ k ∧ k < t + q then (x >>> (nI (24 - 8 * (k - t)) &&& 31)) &&& nI 255 else A 7 k) → Z X [some (zr 1 0), some (zi x), some (zi (if q < 4 then nI (24 - 8 * q) else -8))] [] [zH, zG F1 G A1 B] 0 0 3 := by
    intro m
    induction m with
    | zero => intro q F1 A1 hm; omega
    | succ m ih =>
      intro q F1 A1 hm hq h8 hf hA ha
      by_cases hq4 : q = 4
      · subst hq4
        refine z_iload_n F dX6_puts_3 rfl ?_
        refine z_if_lt F (tgt := 39) dX6_puts_4 (by decide) (fun c_4 => ?_) (fun c_4 => ?_)
        · exact z_vret F E rfl dX6_puts_39 (by omega) (by omega) (⟨rfl, F1, A1, rfl, h8, hf, hA, ha⟩)
        · exact absurd (by decide) c_4
      · refine z_leq (L' := [some (zr 1 0), some (zi x), some (zi (nI (24 - 8 * q)))]) (by rw [if_pos (by omega)]) ?_
        refine z_iload_n F dX6_puts_3 rfl ?_
        refine z_if_ltN F (by omega) (tgt := 39) dX6_puts_4 (by decide) (fun c_4 => ?_) (fun c_4 => ?_)
        · exact absurd c_4 (by omega)
        · refine z_aload_n F dX6_puts_7 rfl ?_
          refine z_ma F rfl 7 rfl (Nat.le_of_ble_eq_true rfl) rfl q1487 dX6_puts_8 ?_
          refine z_aload_n F dX6_puts_11 rfl ?_
          refine z_mi F rfl 8 rfl (Nat.le_of_ble_eq_true rfl) rfl q1488 dX6_puts_12 ?_
          refine z_ieq (h8) ?_
          refine z_iload_n F dX6_puts_15 rfl ?_
          refine z_iload_n F dX6_puts_16 rfl ?_
          refine z_ishr F dX6_puts_17 ?_
          refine z_sipush F (255) dX6_puts_18 rfl ?_
          refine z_iand F dX6_puts_21 ?_
          refine z_iastGN F rfl rfl (Nat.le_of_ble_eq_true rfl) (by omega) dX6_puts_22 ?_
          refine z_weq (w' := [_, _]) rfl ?_
          refine z_aload_n F dX6_puts_23 rfl ?_
          refine z_dup F dX6_puts_24 rfl ?_
          refine z_mi F rfl 8 rfl (Nat.le_of_ble_eq_true rfl) rfl q1488 dX6_puts_25 ?_
          refine z_ieq (h8) ?_
          refine z_iconst F (nI 1) dX6_puts_28 rfl ?_
          refine z_iaddN F dX6_puts_29 ?_
          refine z_pmi F rfl 8 rfl (Nat.le_of_ble_eq_true rfl) rfl q1488 rfl rfl rfl dX6_puts_30 ?_
          refine z_weq (w' := [_, _]) rfl ?_
          refine z_iinc F (if q + 1 < 4 then nI (24 - 8 * (q + 1)) else -8) dX6_puts_33 rfl (lo_inc q (by omega)) ?_
          refine z_leq (L' := [_, _, _]) rfl ?_
          refine z_goto F (tgt := 3) dX6_puts_36 (by decide) ?_
          refine ih (q + 1) _ _ (by omega) (by omega) (by rw [upd_at, if_pos rfl]; rfl) (frm_upd hf (by decide)) (frm_zup hA (by decide)) (fun k => ?_)
          show zup2 A1 7 (t + q) _ 7 k = _
          rw [zup2_row]
          show (if k = t + q then _ else A1 7 k) = _
          by_cases q2 : k = t + q
          · rw [if_pos q2, if_pos (by omega), show k - t = q by omega]; rfl
          · rw [if_neg q2, ha k]
            by_cases q3 : t ≤ k ∧ k < t + q
            · rw [if_pos q3, if_pos (by omega)]
            · rw [if_neg q3, if_neg (by omega)]
  refine z_bipush F (nI 24) dX6_puts_0 rfl ?_
  refine z_istore_n F dX6_puts_2 (Nat.le_of_ble_eq_true rfl) ?_
  refine z_leq (L' := [_, _, _]) rfl ?_
  exact loop 5 0 F0 A (by omega) (by omega) hF frm.rf frm.rf (fun k => by rw [if_neg (by omega)])
theorem fd_5 {t : Nat} {a b c d e : Int32} {A A1 A2 A3 A4 A5 : Nat → Nat → Int32} (w1 : ∀ k, A1 7 k = if t ≤ k ∧ k < t + 4 then (a >>> (nI (24 - 8 * (k - t)) &&& 31)) &&& nI 255 else A 7 k) (w2 : ∀ k, A2 7 k = if t + 4 ≤ k ∧ k < t + 4 + 4 then (b >>> (nI (24 - 8 * (k - (t + 4))) &&& 31)) &&& nI 255 else A1 7 k)
    (w3 : ∀ k, A3 7 k = if t + 4 + 4 ≤ k ∧ k < t + 4 + 4 + 4 then (c >>> (nI (24 - 8 * (k - (t + 4 + 4))) &&& 31)) &&& nI 255 else A2 7 k) (w4 : ∀ k, A4 7 k = if t + 4 + 4 + 4 ≤ k ∧ k < t + 4 + 4 + 4 + 4 then (d >>> (nI (24 - 8 * (k - (t + 4 + 4 + 4))) &&& 31)) &&& nI 255 else A3 7 k)
    (w5 : ∀ k, A5 7 k = if t + 4 + 4 + 4 + 4 ≤ k ∧ k < t + 4 + 4 + 4 + 4 + 4 then (e >>> (nI (24 - 8 * (k - (t + 4 + 4 + 4 + 4))) &&& 31)) &&& nI 255 else A4 7 k) (k : Nat) : A5 7 k = if t ≤ k ∧ k < t + 20 then fdB a b c d e (k - t) &&& nI 255 else A 7 k := by
  by_cases q5 : t + 16 ≤ k
  · by_cases q6 : k < t + 20
    · rw [w5, if_pos (by omega), if_pos (by omega), fdB, fdw_4 (by omega), show (k - t) % 4 = k - (t + 4 + 4 + 4 + 4) by omega]
    · rw [w5, if_neg (by omega), w4, if_neg (by omega), w3, if_neg (by omega), w2, if_neg (by omega), w1, if_neg (by omega), if_neg (by omega)]
  · rw [w5, if_neg (by omega)]
    by_cases q4 : t + 12 ≤ k
    · rw [w4, if_pos (by omega), if_pos (by omega), fdB, fdw_3 (by omega) (by omega), show (k - t) % 4 = k - (t + 4 + 4 + 4) by omega]
    · rw [w4, if_neg (by omega)]
      by_cases q3 : t + 8 ≤ k
      · rw [w3, if_pos (by omega), if_pos (by omega), fdB, fdw_2 (by omega) (by omega), show (k - t) % 4 = k - (t + 4 + 4) by omega]
      · rw [w3, if_neg (by omega)]
        by_cases q2 : t + 4 ≤ k
        · rw [w2, if_pos (by omega), if_pos (by omega), fdB, fdw_1 (by omega) (by omega), show (k - t) % 4 = k - (t + 4) by omega]
        · rw [w2, if_neg (by omega)]
          by_cases q1 : t ≤ k
          · rw [w1, if_pos (by omega), if_pos (by omega), fdB, fdw_0 (by omega), show (k - t) % 4 = k - t by omega]
          · rw [w1, if_neg (by omega), if_neg (by omega)]
theorem c_mfeed_ok (F0 : Nat → Int32) (G : Nat → Int64) (A : Nat → Nat → Int32) (B : Nat → Nat → Int64) (t : Nat) (a b c d e : Int32) (hF : F0 8 = nI t) (ht : t + 20 ≤ 400) :
    zCtr yX6_feed cX6_feed 6 (some .int) 1 0 0 [zr 1 0, zi a, zi b, zi c, zi d, zi e] [zH, zG F0 G A B] (fun r w => r = some (zi (nI (t + 20))) ∧ ∃ F' A', w = [zH, zG F' G A' B] ∧ F' 0 = nI 0 ∧ F' 8 = nI (t + 20) ∧ frm [0, 8] F0 F' ∧ frm [7] A A' ∧ ∀ k, A' 7 k = if t ≤ k ∧ k < t + 20 then fdB a b c d e (k - t) &&& nI 255 else A 7 k) zNx := by
  refine z_start (by decide) [some (zr 1 0), some (zi a), some (zi b), some (zi c), some (zi d), some (zi e)] rfl (fun _ => Nat.le_of_ble_eq_true rfl) (fun _ => rfl) (fun X F E hno hin => ?_)
  have g0 : upd F0 0 (nI 0) 8 = nI t := by rw [upd_at, if_neg (by decide)]; exact hF
  refine z_aload_n F dX6_feed_0 rfl ?_
  refine z_iconst F (nI 0) dX6_feed_1 rfl ?_
  refine z_pmi F rfl 0 rfl (Nat.le_of_ble_eq_true rfl) rfl q1480 rfl rfl rfl dX6_feed_2 ?_
  refine z_weq (w' := [_, _]) rfl ?_
  refine z_aload_n F dX6_feed_5 rfl ?_
  refine z_mi F rfl 8 rfl (Nat.le_of_ble_eq_true rfl) rfl q1488 dX6_feed_6 ?_
  refine z_ieq (by first | exact g5 | exact g0) ?_
  refine z_bipush F (nI 20) dX6_feed_9 rfl ?_
  refine z_iaddN F dX6_feed_11 ?_
  refine z_sipush F (nI 400) dX6_feed_12 rfl ?_
  refine z_icmp_leN F (by omega) (by omega) (tgt := 20) dX6_feed_15 (by decide) (fun c_15 => ?_) (fun c_15 => ?_)
  · refine z_aload_n F dX6_feed_20 rfl ?_
    refine z_iload_n F dX6_feed_21 rfl ?_
    refine z_callV F (c_mputs (upd F0 0 (nI 0)) _ _ _ t a g0 (by omega)) 1 rfl (lw_V q1771 q1773 qs49 q117 q1774) (by decide +kernel) ⟨Nat.le_of_ble_eq_true rfl, Nat.le_of_ble_eq_true rfl⟩ ⟨by omega, by omega⟩ [0, 1] 2 ⟨rfl, rfl, rfl, ⟨Or.inl rfl, Or.inr rfl, trivial⟩⟩ (fun h => nomatch h) (Nat.le_of_ble_eq_true rfl) ⟨⟨Or.inr trivial, Or.inl rfl, trivial⟩, rfl, rfl, rfl, Nat.le_of_ble_eq_true rfl⟩ rfl zC6 (zat_G0 rfl) rfl dX6_feed_22 (fun r_22 w_22 hp => ?_) (fun _ _ h => h.elim)
    obtain ⟨rfl, F1, A1, rfl, g1, u1, v1, w1⟩ := hp
    refine z_weq (w' := [zH, zG _ _ _ _]) rfl ?_
    refine z_seq (S' := []) rfl ?_
    refine z_aload_n F dX6_feed_25 rfl ?_
    refine z_iload_n F dX6_feed_26 rfl ?_
    refine z_callV F (c_mputs F1 _ _ _ (t + 4) b g1 (by omega)) 1 rfl (lw_V q1771 q1773 qs49 q117 q1774) (by decide +kernel) ⟨Nat.le_of_ble_eq_true rfl, Nat.le_of_ble_eq_true rfl⟩ ⟨by omega, by omega⟩ [0, 1] 2 ⟨rfl, rfl, rfl, ⟨Or.inl rfl, Or.inr rfl, trivial⟩⟩ (fun h => nomatch h) (Nat.le_of_ble_eq_true rfl) ⟨⟨Or.inr trivial, Or.inl rfl, trivial⟩, rfl, rfl, rfl, Nat.le_of_ble_eq_true rfl⟩ rfl zC6 (zat_G0 rfl) rfl dX6_feed_27 (fun r_27 w_27 hp => ?_) (fun _ _ h => h.elim)
    obtain ⟨rfl, F2, A2, rfl, g2, u2, v2, w2⟩ := hp
    refine z_weq (w' := [zH, zG _ _ _ _]) rfl ?_
    refine z_seq (S' := []) rfl ?_
    refine z_aload_n F dX6_feed_30 rfl ?_
    refine z_iload_n F dX6_feed_31 rfl ?_
    refine z_callV F (c_mputs F2 _ _ _ (t + 4 + 4) c g2 (by omega)) 1 rfl (lw_V q1771 q1773 qs49 q117 q1774) (by decide +kernel) ⟨Nat.le_of_ble_eq_true rfl, Nat.le_of_ble_eq_true rfl⟩ ⟨by omega, by omega⟩ [0, 1] 2 ⟨rfl, rfl, rfl, ⟨Or.inl rfl, Or.inr rfl, trivial⟩⟩ (fun h => nomatch h) (Nat.le_of_ble_eq_true rfl) ⟨⟨Or.inr trivial, Or.inl rfl, trivial⟩, rfl, rfl, rfl, Nat.le_of_ble_eq_true rfl⟩ rfl zC6 (zat_G0 rfl) rfl dX6_feed_32 (fun r_32 w_32 hp => ?_) (fun _ _ h => h.elim)
    obtain ⟨rfl, F3, A3, rfl, g3, u3, v3, w3⟩ := hp
    refine z_weq (w' := [zH, zG _ _ _ _]) rfl ?_
    refine z_seq (S' := []) rfl ?_
    refine z_aload_n F dX6_feed_35 rfl ?_
    refine z_iload F dX6_feed_36 rfl ?_
    refine z_callV F (c_mputs F3 _ _ _ (t + 4 + 4 + 4) d g3 (by omega)) 1 rfl (lw_V q1771 q1773 qs49 q117 q1774) (by decide +kernel) ⟨Nat.le_of_ble_eq_true rfl, Nat.le_of_ble_eq_true rfl⟩ ⟨by omega, by omega⟩ [0, 1] 2 ⟨rfl, rfl, rfl, ⟨Or.inl rfl, Or.inr rfl, trivial⟩⟩ (fun h => nomatch h) (Nat.le_of_ble_eq_true rfl) ⟨⟨Or.inr trivial, Or.inl rfl, trivial⟩, rfl, rfl, rfl, Nat.le_of_ble_eq_true rfl⟩ rfl zC6 (zat_G0 rfl) rfl dX6_feed_38 (fun r_38 w_38 hp => ?_) (fun _ _ h => h.elim)
    obtain ⟨rfl, F4, A4, rfl, g4, u4, v4, w4⟩ := hp
    refine z_weq (w' := [zH, zG _ _ _ _]) rfl ?_
    refine z_seq (S' := []) rfl ?_
    refine z_aload_n F dX6_feed_41 rfl ?_
    refine z_iload F dX6_feed_42 rfl ?_
    refine z_callV F (c_mputs F4 _ _ _ (t + 4 + 4 + 4 + 4) e g4 (by omega)) 1 rfl (lw_V q1771 q1773 qs49 q117 q1774) (by decide +kernel) ⟨Nat.le_of_ble_eq_true rfl, Nat.le_of_ble_eq_true rfl⟩ ⟨by omega, by omega⟩ [0, 1] 2 ⟨rfl, rfl, rfl, ⟨Or.inl rfl, Or.inr rfl, trivial⟩⟩ (fun h => nomatch h) (Nat.le_of_ble_eq_true rfl) ⟨⟨Or.inr trivial, Or.inl rfl, trivial⟩, rfl, rfl, rfl, Nat.le_of_ble_eq_true rfl⟩ rfl zC6 (zat_G0 rfl) rfl dX6_feed_44 (fun r_44 w_44 hp => ?_) (fun _ _ h => h.elim)
    obtain ⟨rfl, F5, A5, rfl, g5, u5, v5, w5⟩ := hp
    refine z_weq (w' := [zH, zG _ _ _ _]) rfl ?_
    refine z_seq (S' := []) rfl ?_
    refine z_aload_n F dX6_feed_47 rfl ?_
    refine z_mi F rfl 8 rfl (Nat.le_of_ble_eq_true rfl) rfl q1488 dX6_feed_48 ?_
    refine z_ieq (by first | exact g5 | exact g0) ?_
    exact z_iret F E rfl dX6_feed_51 (by omega) (by omega) (⟨rfl, F5, A5, rfl, by rw [u5.at 0 rfl, u4.at 0 rfl, u3.at 0 rfl, u2.at 0 rfl, u1.at 0 rfl]; rfl, g5, (((((frm_upd frm.rf (by decide) : frm [0, 8] F0 (upd F0 0 (nI 0))).tr u1 (l2 := [0, 8]) (by decide) (by decide)).tr u2 (l2 := [0, 8]) (by decide) (by decide)).tr u3 (l2 := [0, 8]) (by decide) (by decide)).tr u4 (l2 := [0, 8]) (by decide) (by decide)).tr u5 (by decide) (by decide), (((v1.tr v2 (l2 := [7]) (by decide) (by decide)).tr v3 (l2 := [7]) (by decide) (by decide)).tr v4 (l2 := [7]) (by decide) (by decide)).tr v5 (by decide) (by decide), fun k => fd_5 w1 w2 w3 w4 w5 k⟩)
  · exact absurd c_15 (by omega)
theorem c_mfeed_full (F0 : Nat → Int32) (G : Nat → Int64) (A : Nat → Nat → Int32) (B : Nat → Nat → Int64) (t : Nat) (a b c d e : Int32) (hF : F0 8 = nI t) (h4 : t ≤ 400) (ht : 400 < t + 20) :
    zCtr yX6_feed cX6_feed 6 (some .int) 1 0 0 [zr 1 0, zi a, zi b, zi c, zi d, zi e] [zH, zG F0 G A B] (fun r w => r = some (zi (-1)) ∧ w = [zH, zG (upd F0 0 (nI 0)) G A B]) zNx := by
  refine z_start (by decide) [some (zr 1 0), some (zi a), some (zi b), some (zi c), some (zi d), some (zi e)] rfl (fun _ => Nat.le_of_ble_eq_true rfl) (fun _ => rfl) (fun X F E hno hin => ?_)
  have g0 : upd F0 0 (nI 0) 8 = nI t := by rw [upd_at, if_neg (by decide)]; exact hF
  refine z_aload_n F dX6_feed_0 rfl ?_
  refine z_iconst F (nI 0) dX6_feed_1 rfl ?_
  refine z_pmi F rfl 0 rfl (Nat.le_of_ble_eq_true rfl) rfl q1480 rfl rfl rfl dX6_feed_2 ?_
  refine z_weq (w' := [_, _]) rfl ?_
  refine z_aload_n F dX6_feed_5 rfl ?_
  refine z_mi F rfl 8 rfl (Nat.le_of_ble_eq_true rfl) rfl q1488 dX6_feed_6 ?_
  refine z_ieq (g0) ?_
  refine z_bipush F (nI 20) dX6_feed_9 rfl ?_
  refine z_iaddN F dX6_feed_11 ?_
  refine z_sipush F (nI 400) dX6_feed_12 rfl ?_
  refine z_icmp_leN F (by omega) (by omega) (tgt := 20) dX6_feed_15 (by decide) (fun c_15 => ?_) (fun c_15 => ?_)
  · exact absurd c_15 (by omega)
  · refine z_iconst F (-1) dX6_feed_18 rfl ?_
    exact z_iret F E rfl dX6_feed_19 (by omega) (by omega) (⟨rfl, rfl⟩)
end C74
