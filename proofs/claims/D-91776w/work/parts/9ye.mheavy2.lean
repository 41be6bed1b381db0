/-! heavy: the reference's loop -/
section C9ye
theorem hyL_lt {n : Nat} {f : Nat → Int32} (hn : n ≤ 24) (st : hyT) : hyL n f st < 20000 := by
  rcases st with _ | p
  · show 0 < 20000; omega
  · exact ldN_lt hn
noncomputable def ptw (what n : Nat) (f : Nat → Int32) (a b : Nat) : Nat := if what = 2 then ptR n f a (ptA n f a) b else 0
noncomputable def ptwA (what n : Nat) (f : Nat → Int32) (a : Nat) : Nat := if what = 2 then ptA n f a else 0
theorem ptw_le {what n a b : Nat} {f : Nat → Int32} : ptw what n f a b ≤ n := by
  unfold ptw
  split
  · exact ptR_le (ptA_le a) b
  · omega
theorem c_mheavy_ok (F0 : Nat → Int32) (G : Nat → Int64) (A : Nat → Nat → Int32) (B : Nat → Nat → Int64) (j n d what : Nat) (f : Nat → Int32) (hj : j < 8) (h : nok n d f) (hs : Slt A j n (nI d) f) (hw : what < 3) :
    zCtr yX6_heavy cX6_heavy 9 (some .int) 5 0 0 [zr 1 0, zi (nI j), zi (nI what)] [zH, zG F0 G A B] (fun r w => r = some (zi (hyV n f what)) ∧ ∃ F' A', w = [zH, zG F' G A' B] ∧ F' 0 = nI 0 ∧ frm [0, 4, 5] F0 F' ∧ frm [6, 23, 65, 67, 68, 69, 70, 71] A A') zNx := by
  refine z_start (by decide) [some (zr 1 0), some (zi (nI j)), some (zi (nI what)), none, none, none, none, none, none] rfl (fun _ => Nat.le_of_ble_eq_true rfl) (fun _ => rfl) (fun X F E hno hin => ?_)
  have hn1 := h.n1
  have hn := h.n24
  have main : ∀ (F1 : Nat → Int32) (A2 : Nat → Nat → Int32), F1 0 = nI 0 → F1 4 = nI n → frm [0, 4, 5] F0 F1 → frm [6, 23, 65, 67, 68, 69, 70, 71] A A2 → cjn n f = true → conn n f (allB n) → (∀ k, k < 24 → A2 6 k = f k) → (∀ x y, x < n → y < n → A2 65 (24 * x + y) = hpI n f x y) → mEq n (A2 67) (lall n f n) →
      ∀ (m a : Nat) (A1 : Nat → Nat → Int32), n - a < m → a ≤ n → frm [68, 69, 70, 71] A2 A1 → Z X [some (zr 1 0), some (zi (nI j)), some (zi (nI what)), some (zi (nI (hyL n f (hyA n f a)))), some (zi (hyI (hyA n f a))), some (zi (nI (ptwA what n f a))), some (zi (nI a)), none, none] [] [zH, zG F1 G A1 B] 0 0 56 := by
    intro F1 A2 f0 f4 hF hAA hcj hc h6 hH hL m
    induction m with
    | zero => intro a A1 hm; omega
    | succ m ih =>
      intro a A1 hm ha hA
      have hl1 := hyL_lt (f := f) hn (hyA n f a)
      have hp1 : ptwA what n f a ≤ n := by
        unfold ptwA
        split
        · exact ptA_le a
        · omega
      have row : a < n → ∀ (m2 b : Nat) (A1 : Nat → Nat → Int32), n - b < m2 → b ≤ n → frm [68, 69, 70, 71] A2 A1 → Z X [some (zr 1 0), some (zi (nI j)), some (zi (nI what)), some (zi (nI (hyL n f (hyR n f a (hyA n f a) b)))), some (zi (hyI (hyR n f a (hyA n f a) b))), some (zi (nI (ptw what n f a b))), some (zi (nI a)), some (zi (nI b)), none] [] [zH, zG F1 G A1 B] 0 0 68 := by
        intro han m2
        induction m2 with
        | zero => intro b A1 hm2; omega
        | succ m2 ih2 =>
          intro b A1 hm2 hb hA
          have hl2 := hyL_lt (f := f) hn (hyR n f a (hyA n f a) b)
          have hl3 := ldN_lt (n := n) (f := f) (a := a) (b := b) hn
          have hp2 := ptw_le (what := what) (n := n) (f := f) (a := a) (b := b)
          have hgk := gN_k (g := hvG n f a b) n
          have hq := hyR_q (f := f) (hyA_q (n := n) (f := f) a (by omega)) han b hb
          have e1 : b < n → A1 67 (24 * a + b) = nI (ldN n f a b) := fun q => by
            rw [hA.at 67 rfl, hL a b han q]; exact lall_vs
          have eR : bt (f a) b = true → ∀ c, hyB n f (hyR n f a (hyA n f a) b) (ldN n f a b) = c → hyR n f a (hyA n f a) (b + 1) = if c = true then some (a, b) else hyR n f a (hyA n f a) b := fun q c e => by
            rw [hyR, e]
            cases c with
            | true => rw [if_pos ⟨q, rfl⟩, if_pos rfl]
            | false => rw [if_neg (fun z => by cases z.2), if_neg (by decide)]
          have at138 : b < n → bt (f a) b = true → Z X [some (zr 1 0), some (zi (nI j)), some (zi (nI what)), some (zi (nI (hyL n f (hyR n f a (hyA n f a) (b + 1))))), some (zi (hyI (hyR n f a (hyA n f a) (b + 1)))), some (zi (nI (ptw what n f a b))), some (zi (nI a)), some (zi (nI b)), none] [] [zH, zG F1 G A1 B] 0 0 138 := by
            intro hbn hbt
            have hl4 := hyL_lt (f := f) hn (hyR n f a (hyA n f a) (b + 1))
            have at157 : ∀ A3 v, frm [68, 69, 70, 71] A2 A3 → v ≤ n → max (ptw what n f a b) v = ptw what n f a (b + 1) → Z X [some (zr 1 0), some (zi (nI j)), some (zi (nI what)), some (zi (nI (hyL n f (hyR n f a (hyA n f a) (b + 1))))), some (zi (hyI (hyR n f a (hyA n f a) (b + 1)))), some (zi (nI (ptw what n f a b))), some (zi (nI a)), some (zi (nI b)), some (zi (nI v))] [] [zH, zG F1 G A3 B] 0 0 157 := by
              intro A3 v hA3 hv e
              have i2 := ih2 (b + 1) A3 (by omega) (by omega) hA3
              rw [← e] at i2
              refine z_iload F dX6_heavy_157 rfl ?_
              refine z_iload F dX6_heavy_159 rfl ?_
              refine z_icmp_leN F (by omega) (by omega) (tgt := 169) dX6_heavy_161 (by decide) (fun c_161 => ?_) (fun c_161 => ?_)
              · refine z_iload F dX6_heavy_169 rfl ?_
                refine z_istore F dX6_heavy_171 (Nat.le_of_ble_eq_true rfl) ?_
                refine z_leq (L' := [_, _, _, _, _, _, _, _, _]) rfl ?_
                refine z_iincN F 1 dX6_heavy_173 rfl rfl ?_
                refine z_leq (L' := [_, _, _, _, _, _, _, _, _]) rfl ?_
                refine z_goto F (tgt := 68) dX6_heavy_176 (by decide) ?_
                rw [Nat.max_eq_left (by omega)] at i2
                refine z_loc _ ?_ i2
                exact ⟨rfl, rfl, rfl, rfl, rfl, rfl, rfl, rfl, trivial⟩
              · refine z_iload F dX6_heavy_164 rfl ?_
                refine z_goto F (tgt := 171) dX6_heavy_166 (by decide) ?_
                refine z_istore F dX6_heavy_171 (Nat.le_of_ble_eq_true rfl) ?_
                refine z_leq (L' := [_, _, _, _, _, _, _, _, _]) rfl ?_
                refine z_iincN F 1 dX6_heavy_173 rfl rfl ?_
                refine z_leq (L' := [_, _, _, _, _, _, _, _, _]) rfl ?_
                refine z_goto F (tgt := 68) dX6_heavy_176 (by decide) ?_
                rw [Nat.max_eq_right (by omega)] at i2
                refine z_loc _ ?_ i2
                exact ⟨rfl, rfl, rfl, rfl, rfl, rfl, rfl, rfl, trivial⟩
            refine z_iload_n F dX6_heavy_138 rfl ?_
            refine z_iconst F (nI 2) dX6_heavy_139 rfl ?_
            refine z_icmp_neN F (by omega) (by omega) (tgt := 154) dX6_heavy_140 (by decide) (fun c_140 => ?_) (fun c_140 => ?_)
            · refine z_iconst F (nI 0) dX6_heavy_154 rfl ?_
              refine z_istore F dX6_heavy_155 (Nat.le_of_ble_eq_true rfl) ?_
              refine z_leq (L' := [_, _, _, _, _, _, _, _, _]) rfl ?_
              exact at157 A1 0 hA (by omega) (by
                unfold ptw
                rw [if_neg c_140, if_neg c_140]; rfl)
            · refine z_aload_n F dX6_heavy_143 rfl ?_
              refine z_iload F dX6_heavy_144 rfl ?_
              refine z_iload F dX6_heavy_146 rfl ?_
              refine z_callV F (c_mcouples F1 _ _ _ n d f a b h hc han hbn f4 (fun x y hx hy => by rw [hA.at 65 rfl]; exact hH x y hx hy)) 2 rfl (lw_V q2107 q2109 qs98 q117 q2110) (by decide +kernel) ⟨Nat.le_of_ble_eq_true rfl, Nat.le_of_ble_eq_true rfl⟩ ⟨by omega, by omega⟩ [0, 1] 2 ⟨rfl, rfl, rfl, ⟨Or.inl rfl, Or.inr rfl, trivial⟩⟩ (fun h => nomatch h) (Nat.le_of_ble_eq_true rfl) ⟨⟨Or.inr trivial, Or.inl rfl, trivial⟩, rfl, rfl, rfl, Nat.le_of_ble_eq_true rfl⟩ rfl zC6 (zat_G0 rfl) rfl dX6_heavy_148 (fun r_148 w_148 hp => ?_) (fun _ _ h => h.elim)
              obtain ⟨rfl, A3, rfl, k1⟩ := hp
              refine z_weq (w' := [zH, zG _ _ _ _]) rfl ?_
              refine z_seq (S' := zi _ :: _) rfl ?_
              refine z_goto F (tgt := 155) dX6_heavy_151 (by decide) ?_
              refine z_istore F dX6_heavy_155 (Nat.le_of_ble_eq_true rfl) ?_
              refine z_leq (L' := [_, _, _, _, _, _, _, _, _]) rfl ?_
              exact at157 A3 _ (hA.tr k1 (by decide) (by decide)) hgk (by
                unfold ptw
                rw [if_pos c_140, if_pos c_140, ptR, if_pos hbt])
          refine z_iload F dX6_heavy_68 rfl ?_
          refine z_aload_n F dX6_heavy_70 rfl ?_
          refine z_mi F rfl 4 rfl (Nat.le_of_ble_eq_true rfl) rfl q1484 dX6_heavy_71 ?_
          refine z_ieq (f4) ?_
          refine z_icmp_geN F (by omega) (by omega) (tgt := 179) dX6_heavy_74 (by decide) (fun c_74 => ?_) (fun c_74 => ?_)
          · refine z_iincN F 1 dX6_heavy_179 rfl rfl ?_
            refine z_leq (L' := [_, _, _, _, _, _, _, _, _]) rfl ?_
            refine z_goto F (tgt := 56) dX6_heavy_182 (by decide) ?_
            have i2 := ih (a + 1) A1 (by omega) (by omega) hA
            rw [hyA] at i2
            rw [show b = n by omega]
            refine z_loc _ ?_ i2
            exact ⟨rfl, rfl, rfl, rfl, rfl, rfl, rfl, trivial⟩
          · refine z_aload_n F dX6_heavy_77 rfl ?_
            refine z_iload F dX6_heavy_78 rfl ?_
            refine z_iload F dX6_heavy_80 rfl ?_
            refine z_callV F (c_isJoined _ _ _ _ a b (by omega) (by omega)) 2 rfl (lw_V q1748 q1750 qs46 q117 q1751) (by decide +kernel) ⟨Nat.le_of_ble_eq_true rfl, Nat.le_of_ble_eq_true rfl⟩ ⟨by omega, by omega⟩ [0, 1] 2 ⟨rfl, rfl, rfl, ⟨Or.inl rfl, Or.inr rfl, trivial⟩⟩ (fun h => nomatch h) (Nat.le_of_ble_eq_true rfl) ⟨⟨Or.inr trivial, Or.inl rfl, trivial⟩, rfl, rfl, rfl, Nat.le_of_ble_eq_true rfl⟩ rfl zC6 (zat_G0 rfl) rfl dX6_heavy_82 (fun r_82 w_82 hp => ?_) (fun _ _ h => h.elim)
            obtain ⟨rfl, rfl⟩ := hp
            rw [hA.at 6 rfl, h6 a (by omega)]
            refine z_weq (w' := [zH, zG _ _ _ _]) rfl ?_
            refine z_seq (S' := zi _ :: _) rfl ?_
            refine z_if_neB F (tgt := 91) dX6_heavy_85 (by decide) (fun c_85 => ?_) (fun c_85 => ?_)
            · refine z_iload F dX6_heavy_91 rfl ?_
              refine z_iconst F (-1) dX6_heavy_93 rfl ?_
              refine z_icmp_eq F (tgt := 114) dX6_heavy_94 (by decide) (fun c_94 => ?_) (fun c_94 => ?_)
              · refine z_aload_n F dX6_heavy_114 rfl ?_
                refine z_ma F rfl 67 rfl (Nat.le_of_ble_eq_true rfl) rfl q1547 dX6_heavy_115 ?_
                refine z_bipush F (nI 24) dX6_heavy_118 rfl ?_
                refine z_iload F dX6_heavy_120 rfl ?_
                refine z_imulN F dX6_heavy_122 ?_
                refine z_iload F dX6_heavy_123 rfl ?_
                refine z_iaddN F dX6_heavy_125 ?_
                refine z_ialdGN F rfl rfl (Nat.le_of_ble_eq_true rfl) (by omega) rfl dX6_heavy_126 ?_
                refine z_ieq (e1 (by omega)) ?_
                refine z_istore_n F dX6_heavy_127 (Nat.le_of_ble_eq_true rfl) ?_
                refine z_leq (L' := [_, _, _, _, _, _, _, _, _]) rfl ?_
                refine z_bipush F (nI 32) dX6_heavy_128 rfl ?_
                refine z_iload F dX6_heavy_130 rfl ?_
                refine z_imulN F dX6_heavy_132 ?_
                refine z_iload F dX6_heavy_133 rfl ?_
                refine z_iaddN F dX6_heavy_135 ?_
                refine z_istore F dX6_heavy_136 (Nat.le_of_ble_eq_true rfl) ?_
                refine z_leq (L' := [_, _, _, _, _, _, _, _, _]) rfl ?_
                have e9 := eR c_85 true (by rw [hy_none hq hn c_94]; rfl)
                rw [if_pos rfl] at e9
                have i2 := at138 (by omega) c_85
                rw [e9] at i2
                exact i2
              · refine z_aload_n F dX6_heavy_97 rfl ?_
                refine z_ma F rfl 67 rfl (Nat.le_of_ble_eq_true rfl) rfl q1547 dX6_heavy_98 ?_
                refine z_bipush F (nI 24) dX6_heavy_101 rfl ?_
                refine z_iload F dX6_heavy_103 rfl ?_
                refine z_imulN F dX6_heavy_105 ?_
                refine z_iload F dX6_heavy_106 rfl ?_
                refine z_iaddN F dX6_heavy_108 ?_
                refine z_ialdGN F rfl rfl (Nat.le_of_ble_eq_true rfl) (by omega) rfl dX6_heavy_109 ?_
                refine z_ieq (e1 (by omega)) ?_
                refine z_iload_n F dX6_heavy_110 rfl ?_
                refine z_icmp_leN F (by omega) (by omega) (tgt := 138) dX6_heavy_111 (by decide) (fun c_111 => ?_) (fun c_111 => ?_)
                · obtain ⟨p, q, hs2, hp3, hq3⟩ := hy_some hq c_94
                  have hc9 : ldN n f a b ≤ hyL n f (hyR n f a (hyA n f a) b) := by omega
                  have e9 := eR c_85 false (by rw [hs2] at hc9 ⊢; exact decide_eq_false (Nat.not_lt.mpr hc9))
                  rw [if_neg (by decide)] at e9
                  have i2 := at138 (by omega) c_85
                  rw [e9] at i2
                  exact i2
                · refine z_aload_n F dX6_heavy_114 rfl ?_
                  refine z_ma F rfl 67 rfl (Nat.le_of_ble_eq_true rfl) rfl q1547 dX6_heavy_115 ?_
                  refine z_bipush F (nI 24) dX6_heavy_118 rfl ?_
                  refine z_iload F dX6_heavy_120 rfl ?_
                  refine z_imulN F dX6_heavy_122 ?_
                  refine z_iload F dX6_heavy_123 rfl ?_
                  refine z_iaddN F dX6_heavy_125 ?_
                  refine z_ialdGN F rfl rfl (Nat.le_of_ble_eq_true rfl) (by omega) rfl dX6_heavy_126 ?_
                  refine z_ieq (e1 (by omega)) ?_
                  refine z_istore_n F dX6_heavy_127 (Nat.le_of_ble_eq_true rfl) ?_
                  refine z_leq (L' := [_, _, _, _, _, _, _, _, _]) rfl ?_
                  refine z_bipush F (nI 32) dX6_heavy_128 rfl ?_
                  refine z_iload F dX6_heavy_130 rfl ?_
                  refine z_imulN F dX6_heavy_132 ?_
                  refine z_iload F dX6_heavy_133 rfl ?_
                  refine z_iaddN F dX6_heavy_135 ?_
                  refine z_istore F dX6_heavy_136 (Nat.le_of_ble_eq_true rfl) ?_
                  refine z_leq (L' := [_, _, _, _, _, _, _, _, _]) rfl ?_
                  obtain ⟨p, q, hs2, hp3, hq3⟩ := hy_some hq c_94
                  have hc9 : ¬ ldN n f a b ≤ hyL n f (hyR n f a (hyA n f a) b) := by omega
                  have e9 := eR c_85 true (by rw [hs2] at hc9 ⊢; exact decide_eq_true (Nat.lt_of_not_le hc9))
                  rw [if_pos rfl] at e9
                  have i2 := at138 (by omega) c_85
                  rw [e9] at i2
                  exact i2
            · refine z_goto F (tgt := 173) dX6_heavy_88 (by decide) ?_
              refine z_iincN F 1 dX6_heavy_173 rfl rfl ?_
              refine z_leq (L' := [_, _, _, _, _, _, _, _, _]) rfl ?_
              refine z_goto F (tgt := 68) dX6_heavy_176 (by decide) ?_
              have i2 := ih2 (b + 1) A1 (by omega) (by omega) hA
              have e9 : ptw what n f a (b + 1) = ptw what n f a b := by
                unfold ptw
                rw [show ptR n f a (ptA n f a) (b + 1) = ptR n f a (ptA n f a) b by rw [ptR, if_neg (by rw [c_85]; decide)]]
              rw [hyR, if_neg (fun z => by rw [c_85] at z; cases z.1), e9] at i2
              exact i2
      refine z_iload F dX6_heavy_56 rfl ?_
      refine z_aload_n F dX6_heavy_58 rfl ?_
      refine z_mi F rfl 4 rfl (Nat.le_of_ble_eq_true rfl) rfl q1484 dX6_heavy_59 ?_
      refine z_ieq (f4) ?_
      refine z_icmp_geN F (by omega) (by omega) (tgt := 185) dX6_heavy_62 (by decide) (fun c_62 => ?_) (fun c_62 => ?_)
      · refine z_iload_n F dX6_heavy_185 rfl ?_
        refine z_if_neN F (by omega) (tgt := 193) dX6_heavy_186 (by decide) (fun c_186 => ?_) (fun c_186 => ?_)
        · refine z_iload_n F dX6_heavy_193 rfl ?_
          refine z_iconst F (nI 1) dX6_heavy_194 rfl ?_
          refine z_icmp_neN F (by omega) (by omega) (tgt := 203) dX6_heavy_195 (by decide) (fun c_195 => ?_) (fun c_195 => ?_)
          · refine z_iload F dX6_heavy_203 rfl ?_
            exact z_iret F E rfl dX6_heavy_205 (by omega) (by omega) (⟨by rw [show a = n by omega, hyV, if_pos hcj, if_neg (by omega), if_neg (by omega), ptwA, if_pos (by omega)], F1, A1, rfl, f0, hF, hAA.tr hA (by decide) (by decide)⟩)
          · refine z_iload F dX6_heavy_198 rfl ?_
            refine z_goto F (tgt := 205) dX6_heavy_200 (by decide) ?_
            exact z_iret F E rfl dX6_heavy_205 (by omega) (by omega) (⟨by rw [show a = n by omega, hyV, if_pos hcj, if_neg (by omega), if_pos (by omega)], F1, A1, rfl, f0, hF, hAA.tr hA (by decide) (by decide)⟩)
        · refine z_iload_n F dX6_heavy_189 rfl ?_
          refine z_goto F (tgt := 205) dX6_heavy_190 (by decide) ?_
          exact z_iret F E rfl dX6_heavy_205 (by omega) (by omega) (⟨by rw [show a = n by omega, hyV, if_pos hcj, if_pos (by omega)], F1, A1, rfl, f0, hF, hAA.tr hA (by decide) (by decide)⟩)
      · refine z_iconst F (nI 0) dX6_heavy_65 rfl ?_
        refine z_istore F dX6_heavy_66 (Nat.le_of_ble_eq_true rfl) ?_
        refine z_leq (L' := [_, _, _, _, _, _, _, _, _]) rfl ?_
        have r2 := row (by omega) (n + 1) 0 A1 (by omega) (by omega) hA
        exact r2
  refine z_aload_n F dX6_heavy_0 rfl ?_
  refine z_iload_n F dX6_heavy_1 rfl ?_
  refine z_callV F (c_lays_ok _ _ _ _ j n (nI d) f hj (by omega) hn hs) 1 rfl (lw_V q1732 q1734 qs42 q117 q1735) (by decide +kernel) ⟨Nat.le_of_ble_eq_true rfl, Nat.le_of_ble_eq_true rfl⟩ ⟨by omega, by omega⟩ [0, 1] 2 ⟨rfl, rfl, rfl, ⟨Or.inl rfl, Or.inr rfl, trivial⟩⟩ (fun h => nomatch h) (Nat.le_of_ble_eq_true rfl) ⟨⟨Or.inr trivial, Or.inl rfl, trivial⟩, rfl, rfl, rfl, Nat.le_of_ble_eq_true rfl⟩ rfl zC6 (zat_G0 rfl) rfl dX6_heavy_2 (fun r_2 w_2 hp => ?_) (fun _ _ h => h.elim)
  obtain ⟨rfl, F1, A1, rfl, f0, f1, f2, f3⟩ := hp
  refine z_weq (w' := [zH, zG _ _ _ _]) rfl ?_
  refine z_seq (S' := zi _ :: _) rfl ?_
  refine z_if_eqB F (tgt := 30) dX6_heavy_5 (by decide) (fun c_5 => ?_) (fun c_5 => ?_)
  · cases c_5
  · refine z_aload_n F dX6_heavy_8 rfl ?_
    refine z_iload_n F dX6_heavy_9 rfl ?_
    refine z_if_ltN F (by omega) (tgt := 22) dX6_heavy_10 (by decide) (fun c_10 => ?_) (fun c_10 => ?_)
    · exact absurd c_10 (by omega)
    · refine z_iload_n F dX6_heavy_13 rfl ?_
      refine z_iconst F (nI 2) dX6_heavy_14 rfl ?_
      refine z_icmp_gtN F (by omega) (by omega) (tgt := 22) dX6_heavy_15 (by decide) (fun c_15 => ?_) (fun c_15 => ?_)
      · exact absurd c_15 (by omega)
      · refine z_iconstB F true dX6_heavy_18 rfl ?_
        refine z_goto F (tgt := 23) dX6_heavy_19 (by decide) ?_
        refine z_iconst F (nI 1) dX6_heavy_23 rfl ?_
        refine z_callV F (c_right _ _ _ _ true 1 f0 (by omega) (by omega)) 2 rfl (lw_V q1736 q1738 qs43 q117 q1739) (by decide +kernel) ⟨Nat.le_of_ble_eq_true rfl, Nat.le_of_ble_eq_true rfl⟩ ⟨by omega, by omega⟩ [0, 1] 2 ⟨rfl, rfl, rfl, ⟨Or.inl rfl, Or.inr rfl, trivial⟩⟩ (fun h => nomatch h) (Nat.le_of_ble_eq_true rfl) ⟨⟨Or.inr trivial, Or.inl rfl, trivial⟩, rfl, rfl, rfl, Nat.le_of_ble_eq_true rfl⟩ rfl zC6 (zat_G0 rfl) rfl dX6_heavy_24 (fun r_24 w_24 hp => ?_) (fun _ _ h => h.elim)
        obtain ⟨rfl, rfl⟩ := hp
        refine z_weq (w' := [zH, zG _ _ _ _]) rfl ?_
        refine z_seq (S' := zi _ :: _) rfl ?_
        refine z_if_neB F (tgt := 32) dX6_heavy_27 (by decide) (fun c_27 => ?_) (fun c_27 => ?_)
        · refine z_aload_n F dX6_heavy_32 rfl ?_
          refine z_callV F (c_mroutes F1 _ _ _ n f hn f3.1 (fun k hk => f3.2.2 k (by omega))) 0 rfl (lw_V q2079 q2081 qs94 q117 q2082) (by decide +kernel) ⟨Nat.le_of_ble_eq_true rfl, Nat.le_of_ble_eq_true rfl⟩ ⟨by omega, by omega⟩ [0, 1] 2 ⟨rfl, rfl, rfl, ⟨Or.inl rfl, Or.inr rfl, trivial⟩⟩ (fun h => nomatch h) (Nat.le_of_ble_eq_true rfl) ⟨⟨Or.inr trivial, Or.inl rfl, trivial⟩, rfl, rfl, rfl, Nat.le_of_ble_eq_true rfl⟩ rfl zC6 (zat_G0 rfl) rfl dX6_heavy_33 (fun r_33 w_33 hp => ?_) (fun _ _ h => h.elim)
          obtain ⟨rfl, A2, rfl, g1, g2, g3⟩ := hp
          rw [okA_cjn h]
          refine z_weq (w' := [zH, zG _ _ _ _]) rfl ?_
          refine z_seq (S' := zi _ :: _) rfl ?_
          refine z_if_neB F (tgt := 41) dX6_heavy_36 (by decide) (fun c_36 => ?_) (fun c_36 => ?_)
          · have hcj : conn n f (allB n) := (cjn_conn h.n1 h.n24 (fun a b ha hb => h.sym ha hb)).mp c_36
            refine z_aload_n F dX6_heavy_41 rfl ?_
            refine z_callV F (c_mcounts F1 _ _ _ n d f h hcj f3.1 g3) 0 rfl (lw_V q2099 q2101 qs97 q117 q2102) (by decide +kernel) ⟨Nat.le_of_ble_eq_true rfl, Nat.le_of_ble_eq_true rfl⟩ ⟨by omega, by omega⟩ [0, 1] 2 ⟨rfl, rfl, rfl, ⟨Or.inl rfl, Or.inr rfl, trivial⟩⟩ (fun h => nomatch h) (Nat.le_of_ble_eq_true rfl) ⟨⟨Or.inr trivial, Or.inl rfl, trivial⟩, rfl, rfl, rfl, Nat.le_of_ble_eq_true rfl⟩ rfl zC6 (zat_G0 rfl) rfl dX6_heavy_42 (fun r_42 w_42 hp => ?_) (fun _ _ h => h.elim)
            obtain ⟨rfl, A3, rfl, k1, k2⟩ := hp
            refine z_weq (w' := [zH, zG _ _ _ _]) rfl ?_
            refine z_seq (S' := []) rfl ?_
            refine z_iconst F (nI 0) dX6_heavy_45 rfl ?_
            refine z_istore_n F dX6_heavy_46 (Nat.le_of_ble_eq_true rfl) ?_
            refine z_leq (L' := [_, _, _, _, _, _, _, _, _]) rfl ?_
            refine z_iconst F (-1) dX6_heavy_47 rfl ?_
            refine z_istore F dX6_heavy_48 (Nat.le_of_ble_eq_true rfl) ?_
            refine z_leq (L' := [_, _, _, _, _, _, _, _, _]) rfl ?_
            refine z_iconst F (nI 0) dX6_heavy_50 rfl ?_
            refine z_istore F dX6_heavy_51 (Nat.le_of_ble_eq_true rfl) ?_
            refine z_leq (L' := [_, _, _, _, _, _, _, _, _]) rfl ?_
            refine z_iconst F (nI 0) dX6_heavy_53 rfl ?_
            refine z_istore F dX6_heavy_54 (Nat.le_of_ble_eq_true rfl) ?_
            refine z_leq (L' := [_, _, _, _, _, _, _, _, _]) rfl ?_
            have r2 := main F1 A3 f0 f3.1 f1 ((f2.tr g1 (l2 := [6, 23, 65, 67, 68, 69, 70, 71]) (by decide) (by decide)).tr k1 (by decide) (by decide)) c_36 hcj (fun k hk => by rw [k1.at 6 rfl, g1.at 6 rfl]; exact f3.2.2 k hk) (fun x y hx hy => by rw [k1.at 65 rfl]; exact g3 x y hx hy) k2 (n + 1) 0 A3 (by omega) (by omega) frm.rf
            refine z_loc _ ?_ r2
            rw [show ptwA what n f 0 = 0 by unfold ptwA; split <;> rfl]
            exact ⟨rfl, rfl, rfl, rfl, rfl, rfl, rfl, trivial⟩
          · refine z_iconst F (-1) dX6_heavy_39 rfl ?_
            exact z_iret F E rfl dX6_heavy_40 (by omega) (by omega) (⟨by rw [hyV, if_neg (by rw [c_36]; decide)], F1, A2, rfl, f0, f1, f2.tr g1 (by decide) (by decide)⟩)
        · cases c_27
theorem c_mheavy_bad (F0 : Nat → Int32) (G : Nat → Int64) (A : Nat → Nat → Int32) (B : Nat → Nat → Int64) (j n d : Nat) (what : Int32) (f : Nat → Int32) (hj : j < 8) (h : nok n d f) (hs : Slt A j n (nI d) f) (hx : inB what (nI 0) (nI 2) = false) :
    zCtr yX6_heavy cX6_heavy 9 (some .int) 5 0 0 [zr 1 0, zi (nI j), zi what] [zH, zG F0 G A B] (fun r w => r = some (zi (nI 0)) ∧ ∃ F' A', w = [zH, zG F' G A' B] ∧ F' 0 = nI 1 ∧ frm [0, 4, 5] F0 F' ∧ frm [6] A A') zNx := by
  refine z_start (by decide) [some (zr 1 0), some (zi (nI j)), some (zi what), none, none, none, none, none, none] rfl (fun _ => Nat.le_of_ble_eq_true rfl) (fun _ => rfl) (fun X F E hno hin => ?_)
  have hn1 := h.n1
  have hn := h.n24
  refine z_aload_n F dX6_heavy_0 rfl ?_
  refine z_iload_n F dX6_heavy_1 rfl ?_
  refine z_callV F (c_lays_ok _ _ _ _ j n (nI d) f hj (by omega) hn hs) 1 rfl (lw_V q1732 q1734 qs42 q117 q1735) (by decide +kernel) ⟨Nat.le_of_ble_eq_true rfl, Nat.le_of_ble_eq_true rfl⟩ ⟨by omega, by omega⟩ [0, 1] 2 ⟨rfl, rfl, rfl, ⟨Or.inl rfl, Or.inr rfl, trivial⟩⟩ (fun h => nomatch h) (Nat.le_of_ble_eq_true rfl) ⟨⟨Or.inr trivial, Or.inl rfl, trivial⟩, rfl, rfl, rfl, Nat.le_of_ble_eq_true rfl⟩ rfl zC6 (zat_G0 rfl) rfl dX6_heavy_2 (fun r_2 w_2 hp => ?_) (fun _ _ h => h.elim)
  obtain ⟨rfl, F1, A1, rfl, f0, f1, f2, f3⟩ := hp
  refine z_weq (w' := [zH, zG _ _ _ _]) rfl ?_
  refine z_seq (S' := zi _ :: _) rfl ?_
  refine z_if_eqB F (tgt := 30) dX6_heavy_5 (by decide) (fun c_5 => ?_) (fun c_5 => ?_)
  · cases c_5
  · refine z_aload_n F dX6_heavy_8 rfl ?_
    refine z_iload_n F dX6_heavy_9 rfl ?_
    refine z_if_lt F (tgt := 22) dX6_heavy_10 (by decide) (fun c_10 => ?_) (fun c_10 => ?_)
    · refine z_iconstB F false dX6_heavy_22 rfl ?_
      refine z_iconst F (nI 1) dX6_heavy_23 rfl ?_
      refine z_callV F (c_right _ _ _ _ false 1 f0 (by omega) (by omega)) 2 rfl (lw_V q1736 q1738 qs43 q117 q1739) (by decide +kernel) ⟨Nat.le_of_ble_eq_true rfl, Nat.le_of_ble_eq_true rfl⟩ ⟨by omega, by omega⟩ [0, 1] 2 ⟨rfl, rfl, rfl, ⟨Or.inl rfl, Or.inr rfl, trivial⟩⟩ (fun h => nomatch h) (Nat.le_of_ble_eq_true rfl) ⟨⟨Or.inr trivial, Or.inl rfl, trivial⟩, rfl, rfl, rfl, Nat.le_of_ble_eq_true rfl⟩ rfl zC6 (zat_G0 rfl) rfl dX6_heavy_24 (fun r_24 w_24 hp => ?_) (fun _ _ h => h.elim)
      obtain ⟨rfl, rfl⟩ := hp
      refine z_weq (w' := [zH, zG _ _ _ _]) rfl ?_
      refine z_seq (S' := zi _ :: _) rfl ?_
      refine z_if_neB F (tgt := 32) dX6_heavy_27 (by decide) (fun c_27 => ?_) (fun c_27 => ?_)
      · cases c_27
      · refine z_iconst F (nI 0) dX6_heavy_30 rfl ?_
        exact z_iret F E rfl dX6_heavy_31 (by omega) (by omega) (⟨rfl, _, A1, rfl, rfl, frm_upd f1 (by decide), f2⟩)
    · refine z_iload_n F dX6_heavy_13 rfl ?_
      refine z_iconst F (nI 2) dX6_heavy_14 rfl ?_
      refine z_icmp_gt F (tgt := 22) dX6_heavy_15 (by decide) (fun c_15 => ?_) (fun c_15 => ?_)
      · refine z_iconstB F false dX6_heavy_22 rfl ?_
        refine z_iconst F (nI 1) dX6_heavy_23 rfl ?_
        refine z_callV F (c_right _ _ _ _ false 1 f0 (by omega) (by omega)) 2 rfl (lw_V q1736 q1738 qs43 q117 q1739) (by decide +kernel) ⟨Nat.le_of_ble_eq_true rfl, Nat.le_of_ble_eq_true rfl⟩ ⟨by omega, by omega⟩ [0, 1] 2 ⟨rfl, rfl, rfl, ⟨Or.inl rfl, Or.inr rfl, trivial⟩⟩ (fun h => nomatch h) (Nat.le_of_ble_eq_true rfl) ⟨⟨Or.inr trivial, Or.inl rfl, trivial⟩, rfl, rfl, rfl, Nat.le_of_ble_eq_true rfl⟩ rfl zC6 (zat_G0 rfl) rfl dX6_heavy_24 (fun r_24 w_24 hp => ?_) (fun _ _ h => h.elim)
        obtain ⟨rfl, rfl⟩ := hp
        refine z_weq (w' := [zH, zG _ _ _ _]) rfl ?_
        refine z_seq (S' := zi _ :: _) rfl ?_
        refine z_if_neB F (tgt := 32) dX6_heavy_27 (by decide) (fun c_27 => ?_) (fun c_27 => ?_)
        · cases c_27
        · refine z_iconst F (nI 0) dX6_heavy_30 rfl ?_
          exact z_iret F E rfl dX6_heavy_31 (by omega) (by omega) (⟨rfl, _, A1, rfl, rfl, frm_upd f1 (by decide), f2⟩)
      · exact (inB_ff hx c_10 (Int32.not_lt.mpr (Int32.not_lt.mp c_15))).elim
end C9ye
