/-! cool -/
section C58
theorem mx0 {H t : Nat} (hH : H ≤ 10000) (ht : t ≤ 500) : (if nI 0 < nI H - nI t then nI H - nI t else nI 0) = nI (H - t) := by
  rcases Nat.lt_or_ge t H with h | h
  · rw [pk_sub (by omega), if_pos ((nI_ltI (by omega) (by omega)).mpr (by omega))]
  · have e : (nI H - nI t).toInt = (H : Int) - t := by
      rw [Int32.toInt_sub, nI_toInt (by omega), nI_toInt (by omega), Int.bmod_def]
      split <;> omega
    have h2 : ¬ nI 0 < nI H - nI t := by
      rw [Int32.lt_iff_toInt_lt, e, nI_toInt (by omega)]
      omega
    rw [if_neg h2, show H - t = 0 by omega]
noncomputable def coR (n : Nat) (f : Nat → Int32) (v : Int32) (T H : Nat) : Nat × (Nat → Int32) := if (prs n f).length = 0 then (0, f) else ((cls n (prs n f).length H (v, f, 0) T).2.2, (cls n (prs n f).length H (v, f, 0) T).2.1)
set_option maxHeartbeats 8000000 in
theorem c_pcool (P : zPt) (t : Nat) (fp sn0 g0 sm0 : Int32) (D : Nat → Int32) (j n d : Nat) (f : Nat → Int32) (v0 : Int32) (T H : Nat) (hj : j < 8) (h : nok n d f) (hP : P j = some (nI n, nI d, f)) (hT : T ≤ 500) (hH : H ≤ 10000) : zCtr yX1_cool cX1_cool 16 (some .int) 8 5 130 [zr 1 0, zi (nI j), zi v0, zi (nI T), zi (nI H)] (xFl P t fp sn0 g0 sm0 D) (fun r w => r = some (zi (nI (coR n f v0 T H).1)) ∧ ∃ sn g sm D, w = xFl (zput P j (some (nI n, nI d, (coR n f v0 T H).2))) t fp sn g sm D) zNx := by
  refine z_start (by decide) [some (zr 1 0), some (zi (nI j)), some (zi v0), some (zi (nI T)), some (zi (nI H)), none, none, none, none, none, none, none, none, none, none, none] rfl (fun _ => Nat.le_of_ble_eq_true rfl) (fun _ => rfl) (fun X F E hno hin => ?_)
  have h24 := h.n24
  have h96 := prs_96 h
  have hl := prs_len h.sy
  generalize hLe : (prs n f).length = L at *
  have b1 : inB (nI T) (nI 0) (nI 500) = true := inB_n (by omega) (by omega) hT
  have b2 : inB (nI H) (nI 0) (nI 10000) = true := inB_n (by omega) (by omega) hH
  have hco : L = 0 → coR n f v0 T H = (0, f) := fun e => by unfold coR; rw [hLe, if_pos e]
  have hco2 : ¬ L = 0 → coR n f v0 T H = ((cls n L H (v0, f, 0) T).2.2, (cls n L H (v0, f, 0) T).2.1) := fun e => by unfold coR; rw [hLe, if_neg e]
  have loop : 0 < L → ∀ (m t' : Nat) (s : CS) (sn g sm : Int32) (D r0 D3 : Nat → Int32), T - t' < m → t' ≤ T → s = cls n L H (v0, f, 0) t' → Z X [some (zr 1 0), some (zi (nI j)), some (zi v0), some (zi (nI T)), some (zi (nI H)), some (zr 22 0), some (zi (nI L)), some (zi s.1), some (zi (nI (cpr n s.2.1))), some (zi (nI s.2.2)), some (zr 24 0), some (zr 25 0), some (zi (nI t')), none, none, none] [] [zPl (zput (pR P) j (zr 22 0)) (zput P j none), xO t fp, zH, eFl 4 sn g sm, zAi 0 24 D, zH, zH, zH, zH, zH, zH, zH, zH, zH, zH, zH, zH, zH, zH, zH, zH, zH, zO 5 [zi (nI n), zi (nI d), zr 23 0], zAi 0 24 s.2.1, zAi 0 L (rowA (prs n s.2.1) r0), zAi 0 3 D3] 4 115 84 := by
    intro hL m
    induction m with
    | zero => intro t' s sn g sm D r0 D3 hm; omega
    | succ m ih =>
      intro t' s sn g sm D r0 D3 hm ht hs
      obtain ⟨k1, k2, k3⟩ := cls_ok (n := n) (d := d) (L := L) (H := H) (s := (v0, f, 0)) h hLe hL rfl t'
      rw [← hs] at k1 k2 k3
      have hcp := cpr_le k1
      have m1 : cl1 L s.1 < L := Nat.mod_lt _ hL
      have m2 : cl2 L s.1 < L := Nat.mod_lt _ hL
      have fin : ∀ (s' : CS) (sn g sm : Int32) (D r0 D3 : Nat → Int32) (o1 o2 o3 : Option zV), t' < T → s' = cst n L (H - t') s → Z X [some (zr 1 0), some (zi (nI j)), some (zi v0), some (zi (nI T)), some (zi (nI H)), some (zr 22 0), some (zi (nI L)), some (zi s'.1), some (zi (nI (cpr n s'.2.1))), some (zi (nI s'.2.2)), some (zr 24 0), some (zr 25 0), some (zi (nI t')), o1, o2, o3] [] [zPl (zput (pR P) j (zr 22 0)) (zput P j none), xO t fp, zH, eFl 4 sn g sm, zAi 0 24 D, zH, zH, zH, zH, zH, zH, zH, zH, zH, zH, zH, zH, zH, zH, zH, zH, zH, zO 5 [zi (nI n), zi (nI d), zr 23 0], zAi 0 24 s'.2.1, zAi 0 L (rowA (prs n s'.2.1) r0), zAi 0 3 D3] 4 115 283 := by
        intro s' sn g sm D r0 D3 o1 o2 o3 hlt hs'
        refine z_iincN F 1 dX1_cool_283 rfl rfl ?_
        refine z_leq (L' := [_, _, _, _, _, _, _, _, _, _, _, _, _, _, _, _]) rfl ?_
        refine z_goto F (tgt := 84) dX1_cool_286 (by decide) ?_
        refine z_loc _ ?_ (ih (t' + 1) s' sn g sm D r0 D3 (by omega) (by omega) (by rw [hs', hs]; rfl))
        exact ⟨rfl, rfl, rfl, rfl, rfl, rfl, rfl, rfl, rfl, rfl, rfl, rfl, rfl, trivial⟩
      have main : ∀ (sn g sm : Int32) (D D3 : Nat → Int32), t' < T → D3 0 = nI (cl1 L s.1) → D3 1 = nI (cl2 L s.1) → D3 2 = nI (rl (lcg (lcg (lcg s.1))) % 2) → Z X [some (zr 1 0), some (zi (nI j)), some (zi v0), some (zi (nI T)), some (zi (nI H)), some (zr 22 0), some (zi (nI L)), some (zi (lcg (lcg (lcg s.1)))), some (zi (nI (cpr n s.2.1))), some (zi (nI s.2.2)), some (zr 24 0), some (zr 25 0), some (zi (nI t')), some (zi (nI 3)), none, none] [] [zPl (zput (pR P) j (zr 22 0)) (zput P j none), xO t fp, zH, eFl 4 sn g sm, zAi 0 24 D, zH, zH, zH, zH, zH, zH, zH, zH, zH, zH, zH, zH, zH, zH, zH, zH, zH, zO 5 [zi (nI n), zi (nI d), zr 23 0], zAi 0 24 s.2.1, zAi 0 L (rowA (prs n s.2.1) r0), zAi 0 3 D3] 4 115 93 := by
        intro sn g sm D D3 hlt d0 d1 d2
        have hb2 : rl (lcg (lcg (lcg s.1))) % 2 < 2 := Nat.mod_lt _ (by decide)
        have hmin : min (cl1 L s.1) (cl2 L s.1) < L := Nat.lt_of_le_of_lt (Nat.min_le_left _ _) m1
        have hmax : max (cl1 L s.1) (cl2 L s.1) < L := Nat.max_lt.mpr ⟨m1, m2⟩
        have hmm : min (cl1 L s.1) (cl2 L s.1) = max (cl1 L s.1) (cl2 L s.1) ↔ cl1 L s.1 = cl2 L s.1 := by
          generalize cl1 L s.1 = a
          generalize cl2 L s.1 = b
          omega
        have hc3 : cl3 s.1 = decide (rl (lcg (lcg (lcg s.1))) % 2 = 1) := rfl
        generalize hb0 : rl (lcg (lcg (lcg s.1))) % 2 = b0 at *
        generalize hi0 : min (cl1 L s.1) (cl2 L s.1) = i0 at *
        generalize hj0 : max (cl1 L s.1) (cl2 L s.1) = j0 at *
        generalize hu0 : cl1 L s.1 = u0 at *
        generalize hw0 : cl2 L s.1 = w0 at *
        have k2i : i0 < (prs n s.2.1).length := Nat.lt_of_lt_of_eq hmin k2.symm
        have k2j : j0 < (prs n s.2.1).length := Nat.lt_of_lt_of_eq hmax k2.symm
        have y2 : cacc n L (H - t') s = true → cst n L (H - t') s = (lcg (lcg (lcg s.1)), cgo n s.2.1 i0 j0 (cl3 s.1), s.2.2 + 1) := fun q => by rw [cst_y q, hu0, hw0, hi0, hj0]
        have ay : ∀ cr, cl3 s.1 = cr → ¬ i0 = j0 → cok n s.2.1 i0 j0 cr = true → cpr n (cgo n s.2.1 i0 j0 cr) ≤ cpr n s.2.1 + (H - t') → cacc n L (H - t') s = true := fun cr q1 q2 q3 q4 => by
          subst q1
          exact cacc_y (by rw [hu0, hw0]; exact fun z => q2 (hmm.mpr z)) (by rw [hu0, hw0, hi0, hj0]; exact q3) (by rw [hu0, hw0, hi0, hj0]; exact q4)
        have an : ∀ cr, cl3 s.1 = cr → (i0 = j0 ∨ cok n s.2.1 i0 j0 cr = false ∨ cpr n s.2.1 + (H - t') < cpr n (cgo n s.2.1 i0 j0 cr)) → cacc n L (H - t') s = false := fun cr q1 q2 => by
          subst q1
          refine cacc_n ?_
          rw [hu0, hw0, hi0, hj0]
          rcases q2 with z | z | z
          · exact Or.inl (hmm.mp z)
          · exact Or.inr (Or.inl z)
          · exact Or.inr (Or.inr z)
        refine z_iload F dX1_cool_93 rfl ?_
        refine z_iconst F (nI 3) dX1_cool_95 rfl ?_
        refine z_icmp_geN F (by omega) (by omega) (tgt := 143) dX1_cool_96 (by decide) (fun c_96 => ?_) (fun c_96 => ?_)
        · refine z_aload F dX1_cool_143 rfl ?_
          refine z_iconst F (nI 0) dX1_cool_145 rfl ?_
          refine z_ialdN F rfl (Nat.le_of_ble_eq_true rfl) (by omega) rfl dX1_cool_146 ?_
          refine z_ieq (d0) ?_
          refine z_aload F dX1_cool_147 rfl ?_
          refine z_iconst F (nI 1) dX1_cool_149 rfl ?_
          refine z_ialdN F rfl (Nat.le_of_ble_eq_true rfl) (by omega) rfl dX1_cool_150 ?_
          refine z_ieq (d1) ?_
          refine z_mmin F q770 dX1_cool_151 (Nat.le_of_ble_eq_true rfl) rfl (Nat.le_of_ble_eq_true rfl) ⟨by omega, by omega⟩ ?_
          refine z_ieq (mminN (by omega) (by omega)) ?_
          refine z_ieq (show _ = nI i0 from by rw [hi0]) ?_
          refine z_istore F dX1_cool_154 (Nat.le_of_ble_eq_true rfl) ?_
          refine z_leq (L' := [_, _, _, _, _, _, _, _, _, _, _, _, _, _, _, _]) rfl ?_
          refine z_aload F dX1_cool_156 rfl ?_
          refine z_iconst F (nI 0) dX1_cool_158 rfl ?_
          refine z_ialdN F rfl (Nat.le_of_ble_eq_true rfl) (by omega) rfl dX1_cool_159 ?_
          refine z_ieq (d0) ?_
          refine z_aload F dX1_cool_160 rfl ?_
          refine z_iconst F (nI 1) dX1_cool_162 rfl ?_
          refine z_ialdN F rfl (Nat.le_of_ble_eq_true rfl) (by omega) rfl dX1_cool_163 ?_
          refine z_ieq (d1) ?_
          refine z_mmax F q771 dX1_cool_164 (Nat.le_of_ble_eq_true rfl) rfl (Nat.le_of_ble_eq_true rfl) ⟨by omega, by omega⟩ ?_
          refine z_ieq (mmaxN (by omega) (by omega)) ?_
          refine z_ieq (show _ = nI j0 from by rw [hj0]) ?_
          refine z_istore F dX1_cool_167 (Nat.le_of_ble_eq_true rfl) ?_
          refine z_leq (L' := [_, _, _, _, _, _, _, _, _, _, _, _, _, _, _, _]) rfl ?_
          refine z_iload F dX1_cool_169 rfl ?_
          refine z_iload F dX1_cool_171 rfl ?_
          refine z_icmp_eqN F (by omega) (by omega) (tgt := 283) dX1_cool_173 (by decide) (fun c_173 => ?_) (fun c_173 => ?_)
          · exact fin (lcg (lcg (lcg s.1)), s.2.1, s.2.2) _ _ _ _ _ _ _ _ _ hlt (cst_n (an _ rfl (Or.inl c_173))).symm
          · refine z_aload F dX1_cool_176 rfl ?_
            refine z_aload F dX1_cool_178 rfl ?_
            refine z_iload F dX1_cool_180 rfl ?_
            refine z_ialdN F rfl (by omega) (by omega) rfl dX1_cool_182 ?_
            refine z_ieq (rw1 k2i) ?_
            refine z_aload F dX1_cool_183 rfl ?_
            refine z_iload F dX1_cool_185 rfl ?_
            refine z_ialdN F rfl (by omega) (by omega) rfl dX1_cool_187 ?_
            refine z_ieq (rw1 k2j) ?_
            refine z_aload F dX1_cool_188 rfl ?_
            refine z_iconst F (nI 2) dX1_cool_190 rfl ?_
            refine z_ialdN F rfl (Nat.le_of_ble_eq_true rfl) (by omega) rfl dX1_cool_191 ?_
            refine z_ieq (d2) ?_
            refine z_iconst F (nI 1) dX1_cool_192 rfl ?_
            refine z_icmp_neN F (by omega) (by omega) (tgt := 200) dX1_cool_193 (by decide) (fun c_193 => ?_) (fun c_193 => ?_)
            · refine z_iconstB F false dX1_cool_200 rfl ?_
              refine z_ieq (y := bI (cl3 s.1)) (by rw [hc3, decide_eq_false c_193]) ?_
              refine z_callS F (c_xchg n d s.2.1 i0 j0 (cl3 s.1) k1 k2i k2j) 4 rfl (lw_S q922 q923 q109 q924) (by decide +kernel) ⟨Nat.le_of_ble_eq_true rfl, Nat.le_of_ble_eq_true rfl⟩ ⟨by omega, by omega⟩ [0, 22, 23] 26 ⟨rfl, rfl, rfl, ⟨Or.inl rfl, Or.inr rfl, Or.inr rfl, trivial⟩⟩ (fun h => nomatch h) (Nat.le_of_ble_eq_true rfl) ⟨⟨Or.inr (by first | exact ⟨rfl, pR_B _ (by decide)⟩ | exact ⟨rfl, uR_B (by decide) (by decide)⟩), Or.inr rfl, Or.inr trivial, Or.inr rfl, Or.inr trivial, Or.inr trivial, Or.inr trivial, Or.inr trivial, Or.inr trivial, Or.inr trivial, Or.inr trivial, Or.inr trivial, Or.inr trivial, Or.inr trivial, Or.inr trivial, Or.inr trivial, Or.inr trivial, Or.inr trivial, Or.inr trivial, Or.inr trivial, Or.inr trivial, Or.inr trivial, Or.inl rfl, Or.inl rfl, Or.inr trivial, Or.inr trivial, trivial⟩, rfl, rfl, rfl, Nat.le_of_ble_eq_true rfl⟩ rfl rfl dX1_cool_201 (fun r_201 w_201 hp => ?_) (fun _ _ h => h.elim)
              obtain ⟨rfl, rfl⟩ := hp
              refine z_weq (w' := [zPl _ _, zO _ [zr _ _, zr _ _, zr _ _, zr _ _, zr _ _, zi _, zi _, zr _ _, zr _ _], zH, zO _ [zr _ _, zi _, zi _, zi _], zAi 0 24 _, zH, zH, zH, zH, zH, zH, zH, zH, zH, zH, zH, zH, zH, zH, zH, zH, zH, zO _ [zi _, zi _, zr _ _], zAi 0 24 _, zAi 0 L _, zAi 0 3 _]) rfl ?_
              refine z_seq (S' := zi _ :: _) rfl ?_
              refine z_if_neB F (tgt := 210) dX1_cool_204 (by decide) (fun c_204 => ?_) (fun c_204 => ?_)
              · obtain ⟨q1, q2, q3⟩ := cgo_ok k1 k2i k2j c_204
                have hcg := cpr_le q1
                rw [if_pos c_204]
                refine z_aload_n F dX1_cool_210 rfl ?_
                refine z_get F zC1 (f := 2) rfl (Nat.le_of_ble_eq_true rfl) q316 rfl dX1_cool_211 ?_
                refine z_aload F dX1_cool_214 rfl ?_
                refine z_callV F (c_price n (nI d) (cgo n s.2.1 i0 j0 (cl3 s.1)) _ _ _ _ h24) 1 rfl (lw_V q862 q863 q864 q110 q865) (by decide +kernel) ⟨Nat.le_of_ble_eq_true rfl, Nat.le_of_ble_eq_true rfl⟩ ⟨by omega, by omega⟩ [0, 3, 4, 22, 23] 26 ⟨rfl, rfl, rfl, ⟨Or.inl rfl, Or.inr rfl, Or.inr rfl, Or.inr rfl, Or.inr rfl, trivial⟩⟩ (fun h => nomatch h) (Nat.le_of_ble_eq_true rfl) ⟨⟨Or.inr (by first | exact ⟨rfl, pR_B _ (by decide)⟩ | exact ⟨rfl, uR_B (by decide) (by decide)⟩), Or.inr rfl, Or.inr trivial, Or.inl rfl, Or.inl rfl, Or.inr trivial, Or.inr trivial, Or.inr trivial, Or.inr trivial, Or.inr trivial, Or.inr trivial, Or.inr trivial, Or.inr trivial, Or.inr trivial, Or.inr trivial, Or.inr trivial, Or.inr trivial, Or.inr trivial, Or.inr trivial, Or.inr trivial, Or.inr trivial, Or.inr trivial, Or.inl rfl, Or.inl rfl, Or.inr trivial, Or.inr trivial, trivial⟩, rfl, rfl, rfl, Nat.le_of_ble_eq_true rfl⟩ rfl zC2 rfl rfl dX1_cool_216 (fun r_216 w_216 hp => ?_) (fun _ _ h => h.elim)
                obtain ⟨rfl, sn1, g1', sm1, D1, rfl⟩ := hp
                refine z_weq (w' := [zPl _ _, zO _ [zr _ _, zr _ _, zr _ _, zr _ _, zr _ _, zi _, zi _, zr _ _, zr _ _], zH, zO _ [zr _ _, zi _, zi _, zi _], zAi 0 24 _, zH, zH, zH, zH, zH, zH, zH, zH, zH, zH, zH, zH, zH, zH, zH, zH, zH, zO _ [zi _, zi _, zr _ _], zAi 0 24 _, zAi 0 L _, zAi 0 3 _]) rfl ?_
                refine z_seq (S' := zi _ :: _) rfl ?_
                refine z_istore F dX1_cool_219 (Nat.le_of_ble_eq_true rfl) ?_
                refine z_leq (L' := [_, _, _, _, _, _, _, _, _, _, _, _, _, _, _, _]) rfl ?_
                refine z_iload F dX1_cool_221 rfl ?_
                refine z_iload F dX1_cool_223 rfl ?_
                refine z_iconst F (nI 0) dX1_cool_225 rfl ?_
                refine z_iload F dX1_cool_226 rfl ?_
                refine z_iload F dX1_cool_228 rfl ?_
                refine z_isub F dX1_cool_230 ?_
                refine z_mmax F q771 dX1_cool_231 (Nat.le_of_ble_eq_true rfl) rfl (Nat.le_of_ble_eq_true rfl) ⟨by omega, by omega⟩ ?_
                refine z_ieq (mx0 hH (by omega)) ?_
                refine z_iaddN F dX1_cool_234 ?_
                refine z_icmp_gtN F (by omega) (by omega) (tgt := 255) dX1_cool_235 (by decide) (fun c_235 => ?_) (fun c_235 => ?_)
                · refine z_aload F dX1_cool_255 rfl ?_
                  refine z_aload F dX1_cool_257 rfl ?_
                  refine z_iload F dX1_cool_259 rfl ?_
                  refine z_ialdN F rfl (by omega) (by omega) rfl dX1_cool_261 ?_
                  refine z_ieq (rw1 k2i) ?_
                  refine z_aload F dX1_cool_262 rfl ?_
                  refine z_iload F dX1_cool_264 rfl ?_
                  refine z_ialdN F rfl (by omega) (by omega) rfl dX1_cool_266 ?_
                  refine z_ieq (rw1 k2j) ?_
                  refine z_aload F dX1_cool_267 rfl ?_
                  refine z_iconst F (nI 2) dX1_cool_269 rfl ?_
                  refine z_ialdN F rfl (Nat.le_of_ble_eq_true rfl) (by omega) rfl dX1_cool_270 ?_
                  refine z_ieq (d2) ?_
                  refine z_iconst F (nI 1) dX1_cool_271 rfl ?_
                  refine z_icmp_neN F (by omega) (by omega) (tgt := 279) dX1_cool_272 (by decide) (fun c_272 => ?_) (fun c_272 => ?_)
                  · refine z_iconstB F false dX1_cool_279 rfl ?_
                    refine z_ieq (y := bI (cl3 s.1)) (by rw [hc3, decide_eq_false c_272]) ?_
                    refine z_callS F (c_xback n d s.2.1 (cgo n s.2.1 i0 j0 (cl3 s.1)) i0 j0 (cl3 s.1) k1 k2i k2j) 4 rfl (lw_S q936 q937 q109 q938) (by decide +kernel) ⟨Nat.le_of_ble_eq_true rfl, Nat.le_of_ble_eq_true rfl⟩ ⟨by omega, by omega⟩ [0, 22, 23] 26 ⟨rfl, rfl, rfl, ⟨Or.inl rfl, Or.inr rfl, Or.inr rfl, trivial⟩⟩ (fun h => nomatch h) (Nat.le_of_ble_eq_true rfl) ⟨⟨Or.inr (by first | exact ⟨rfl, pR_B _ (by decide)⟩ | exact ⟨rfl, uR_B (by decide) (by decide)⟩), Or.inr rfl, Or.inr trivial, Or.inr rfl, Or.inr trivial, Or.inr trivial, Or.inr trivial, Or.inr trivial, Or.inr trivial, Or.inr trivial, Or.inr trivial, Or.inr trivial, Or.inr trivial, Or.inr trivial, Or.inr trivial, Or.inr trivial, Or.inr trivial, Or.inr trivial, Or.inr trivial, Or.inr trivial, Or.inr trivial, Or.inr trivial, Or.inl rfl, Or.inl rfl, Or.inr trivial, Or.inr trivial, trivial⟩, rfl, rfl, rfl, Nat.le_of_ble_eq_true rfl⟩ rfl rfl dX1_cool_280 (fun r_280 w_280 hp => ?_) (fun _ _ h => h.elim)
                    obtain ⟨rfl, rfl⟩ := hp
                    rw [q3]
                    refine z_weq (w' := [zPl _ _, zO _ [zr _ _, zr _ _, zr _ _, zr _ _, zr _ _, zi _, zi _, zr _ _, zr _ _], zH, zO _ [zr _ _, zi _, zi _, zi _], zAi 0 24 _, zH, zH, zH, zH, zH, zH, zH, zH, zH, zH, zH, zH, zH, zH, zH, zH, zH, zO _ [zi _, zi _, zr _ _], zAi 0 24 _, zAi 0 L _, zAi 0 3 _]) rfl ?_
                    refine z_seq (S' := []) rfl ?_
                    exact fin (lcg (lcg (lcg s.1)), s.2.1, s.2.2) _ _ _ _ _ _ _ _ _ hlt (cst_n (an _ rfl (Or.inr (Or.inr c_235)))).symm
                  · exact absurd c_272 c_193
                · refine z_iload F dX1_cool_238 rfl ?_
                  refine z_istore F dX1_cool_240 (Nat.le_of_ble_eq_true rfl) ?_
                  refine z_leq (L' := [_, _, _, _, _, _, _, _, _, _, _, _, _, _, _, _]) rfl ?_
                  refine z_iincN F 1 dX1_cool_242 rfl rfl ?_
                  refine z_leq (L' := [_, _, _, _, _, _, _, _, _, _, _, _, _, _, _, _]) rfl ?_
                  refine z_aload F dX1_cool_245 rfl ?_
                  refine z_aload F dX1_cool_247 rfl ?_
                  refine z_callV F (c_tellRow n (nI d) (cgo n s.2.1 i0 j0 (cl3 s.1)) _ L h24 (Nat.le_of_eq (q2.trans k2)) (by omega)) 1 rfl (lw_V q947 q785 q786 q116 q787) (by decide +kernel) ⟨Nat.le_of_ble_eq_true rfl, Nat.le_of_ble_eq_true rfl⟩ ⟨by omega, by omega⟩ [0, 22, 23, 24] 26 ⟨rfl, rfl, rfl, ⟨Or.inl rfl, Or.inr rfl, Or.inr rfl, Or.inr rfl, trivial⟩⟩ (fun h => nomatch h) (Nat.le_of_ble_eq_true rfl) ⟨⟨Or.inr (by first | exact ⟨rfl, pR_B _ (by decide)⟩ | exact ⟨rfl, uR_B (by decide) (by decide)⟩), Or.inr rfl, Or.inr trivial, Or.inr rfl, Or.inr trivial, Or.inr trivial, Or.inr trivial, Or.inr trivial, Or.inr trivial, Or.inr trivial, Or.inr trivial, Or.inr trivial, Or.inr trivial, Or.inr trivial, Or.inr trivial, Or.inr trivial, Or.inr trivial, Or.inr trivial, Or.inr trivial, Or.inr trivial, Or.inr trivial, Or.inr trivial, Or.inl rfl, Or.inl rfl, Or.inl rfl, Or.inr trivial, trivial⟩, rfl, rfl, rfl, Nat.le_of_ble_eq_true rfl⟩ rfl zC5 rfl rfl dX1_cool_249 (fun r_249 w_249 hp => ?_) (fun _ _ h => h.elim)
                  obtain ⟨rfl, rfl⟩ := hp
                  refine z_weq (w' := [zPl _ _, zO _ [zr _ _, zr _ _, zr _ _, zr _ _, zr _ _, zi _, zi _, zr _ _, zr _ _], zH, zO _ [zr _ _, zi _, zi _, zi _], zAi 0 24 _, zH, zH, zH, zH, zH, zH, zH, zH, zH, zH, zH, zH, zH, zH, zH, zH, zH, zO _ [zi _, zi _, zr _ _], zAi 0 24 _, zAi 0 L _, zAi 0 3 _]) rfl ?_
                  refine z_seq (S' := []) rfl ?_
                  refine z_goto F (tgt := 283) dX1_cool_252 (by decide) ?_
                  exact fin (lcg (lcg (lcg s.1)), cgo n s.2.1 i0 j0 (cl3 s.1), s.2.2 + 1) _ _ _ _ _ _ _ _ _ hlt (y2 (ay _ rfl c_173 c_204 c_235)).symm
              · rw [if_neg (by rw [c_204]; decide)]
                refine z_goto F (tgt := 283) dX1_cool_207 (by decide) ?_
                exact fin (lcg (lcg (lcg s.1)), s.2.1, s.2.2) _ _ _ _ _ _ _ _ _ hlt (cst_n (an _ rfl (Or.inr (Or.inl c_204)))).symm
            · refine z_iconstB F true dX1_cool_196 rfl ?_
              refine z_ieq (y := bI (cl3 s.1)) (by rw [hc3, decide_eq_true c_193]) ?_
              refine z_goto F (tgt := 201) dX1_cool_197 (by decide) ?_
              refine z_callS F (c_xchg n d s.2.1 i0 j0 (cl3 s.1) k1 k2i k2j) 4 rfl (lw_S q922 q923 q109 q924) (by decide +kernel) ⟨Nat.le_of_ble_eq_true rfl, Nat.le_of_ble_eq_true rfl⟩ ⟨by omega, by omega⟩ [0, 22, 23] 26 ⟨rfl, rfl, rfl, ⟨Or.inl rfl, Or.inr rfl, Or.inr rfl, trivial⟩⟩ (fun h => nomatch h) (Nat.le_of_ble_eq_true rfl) ⟨⟨Or.inr (by first | exact ⟨rfl, pR_B _ (by decide)⟩ | exact ⟨rfl, uR_B (by decide) (by decide)⟩), Or.inr rfl, Or.inr trivial, Or.inr rfl, Or.inr trivial, Or.inr trivial, Or.inr trivial, Or.inr trivial, Or.inr trivial, Or.inr trivial, Or.inr trivial, Or.inr trivial, Or.inr trivial, Or.inr trivial, Or.inr trivial, Or.inr trivial, Or.inr trivial, Or.inr trivial, Or.inr trivial, Or.inr trivial, Or.inr trivial, Or.inr trivial, Or.inl rfl, Or.inl rfl, Or.inr trivial, Or.inr trivial, trivial⟩, rfl, rfl, rfl, Nat.le_of_ble_eq_true rfl⟩ rfl rfl dX1_cool_201 (fun r_201 w_201 hp => ?_) (fun _ _ h => h.elim)
              obtain ⟨rfl, rfl⟩ := hp
              refine z_weq (w' := [zPl _ _, zO _ [zr _ _, zr _ _, zr _ _, zr _ _, zr _ _, zi _, zi _, zr _ _, zr _ _], zH, zO _ [zr _ _, zi _, zi _, zi _], zAi 0 24 _, zH, zH, zH, zH, zH, zH, zH, zH, zH, zH, zH, zH, zH, zH, zH, zH, zH, zO _ [zi _, zi _, zr _ _], zAi 0 24 _, zAi 0 L _, zAi 0 3 _]) rfl ?_
              refine z_seq (S' := zi _ :: _) rfl ?_
              refine z_if_neB F (tgt := 210) dX1_cool_204 (by decide) (fun c_204 => ?_) (fun c_204 => ?_)
              · obtain ⟨q1, q2, q3⟩ := cgo_ok k1 k2i k2j c_204
                have hcg := cpr_le q1
                rw [if_pos c_204]
                refine z_aload_n F dX1_cool_210 rfl ?_
                refine z_get F zC1 (f := 2) rfl (Nat.le_of_ble_eq_true rfl) q316 rfl dX1_cool_211 ?_
                refine z_aload F dX1_cool_214 rfl ?_
                refine z_callV F (c_price n (nI d) (cgo n s.2.1 i0 j0 (cl3 s.1)) _ _ _ _ h24) 1 rfl (lw_V q862 q863 q864 q110 q865) (by decide +kernel) ⟨Nat.le_of_ble_eq_true rfl, Nat.le_of_ble_eq_true rfl⟩ ⟨by omega, by omega⟩ [0, 3, 4, 22, 23] 26 ⟨rfl, rfl, rfl, ⟨Or.inl rfl, Or.inr rfl, Or.inr rfl, Or.inr rfl, Or.inr rfl, trivial⟩⟩ (fun h => nomatch h) (Nat.le_of_ble_eq_true rfl) ⟨⟨Or.inr (by first | exact ⟨rfl, pR_B _ (by decide)⟩ | exact ⟨rfl, uR_B (by decide) (by decide)⟩), Or.inr rfl, Or.inr trivial, Or.inl rfl, Or.inl rfl, Or.inr trivial, Or.inr trivial, Or.inr trivial, Or.inr trivial, Or.inr trivial, Or.inr trivial, Or.inr trivial, Or.inr trivial, Or.inr trivial, Or.inr trivial, Or.inr trivial, Or.inr trivial, Or.inr trivial, Or.inr trivial, Or.inr trivial, Or.inr trivial, Or.inr trivial, Or.inl rfl, Or.inl rfl, Or.inr trivial, Or.inr trivial, trivial⟩, rfl, rfl, rfl, Nat.le_of_ble_eq_true rfl⟩ rfl zC2 rfl rfl dX1_cool_216 (fun r_216 w_216 hp => ?_) (fun _ _ h => h.elim)
                obtain ⟨rfl, sn1, g1', sm1, D1, rfl⟩ := hp
                refine z_weq (w' := [zPl _ _, zO _ [zr _ _, zr _ _, zr _ _, zr _ _, zr _ _, zi _, zi _, zr _ _, zr _ _], zH, zO _ [zr _ _, zi _, zi _, zi _], zAi 0 24 _, zH, zH, zH, zH, zH, zH, zH, zH, zH, zH, zH, zH, zH, zH, zH, zH, zH, zO _ [zi _, zi _, zr _ _], zAi 0 24 _, zAi 0 L _, zAi 0 3 _]) rfl ?_
                refine z_seq (S' := zi _ :: _) rfl ?_
                refine z_istore F dX1_cool_219 (Nat.le_of_ble_eq_true rfl) ?_
                refine z_leq (L' := [_, _, _, _, _, _, _, _, _, _, _, _, _, _, _, _]) rfl ?_
                refine z_iload F dX1_cool_221 rfl ?_
                refine z_iload F dX1_cool_223 rfl ?_
                refine z_iconst F (nI 0) dX1_cool_225 rfl ?_
                refine z_iload F dX1_cool_226 rfl ?_
                refine z_iload F dX1_cool_228 rfl ?_
                refine z_isub F dX1_cool_230 ?_
                refine z_mmax F q771 dX1_cool_231 (Nat.le_of_ble_eq_true rfl) rfl (Nat.le_of_ble_eq_true rfl) ⟨by omega, by omega⟩ ?_
                refine z_ieq (mx0 hH (by omega)) ?_
                refine z_iaddN F dX1_cool_234 ?_
                refine z_icmp_gtN F (by omega) (by omega) (tgt := 255) dX1_cool_235 (by decide) (fun c_235 => ?_) (fun c_235 => ?_)
                · refine z_aload F dX1_cool_255 rfl ?_
                  refine z_aload F dX1_cool_257 rfl ?_
                  refine z_iload F dX1_cool_259 rfl ?_
                  refine z_ialdN F rfl (by omega) (by omega) rfl dX1_cool_261 ?_
                  refine z_ieq (rw1 k2i) ?_
                  refine z_aload F dX1_cool_262 rfl ?_
                  refine z_iload F dX1_cool_264 rfl ?_
                  refine z_ialdN F rfl (by omega) (by omega) rfl dX1_cool_266 ?_
                  refine z_ieq (rw1 k2j) ?_
                  refine z_aload F dX1_cool_267 rfl ?_
                  refine z_iconst F (nI 2) dX1_cool_269 rfl ?_
                  refine z_ialdN F rfl (Nat.le_of_ble_eq_true rfl) (by omega) rfl dX1_cool_270 ?_
                  refine z_ieq (d2) ?_
                  refine z_iconst F (nI 1) dX1_cool_271 rfl ?_
                  refine z_icmp_neN F (by omega) (by omega) (tgt := 279) dX1_cool_272 (by decide) (fun c_272 => ?_) (fun c_272 => ?_)
                  · exact absurd c_193 c_272
                  · refine z_iconstB F true dX1_cool_275 rfl ?_
                    refine z_ieq (y := bI (cl3 s.1)) (by rw [hc3, decide_eq_true c_272]) ?_
                    refine z_goto F (tgt := 280) dX1_cool_276 (by decide) ?_
                    refine z_callS F (c_xback n d s.2.1 (cgo n s.2.1 i0 j0 (cl3 s.1)) i0 j0 (cl3 s.1) k1 k2i k2j) 4 rfl (lw_S q936 q937 q109 q938) (by decide +kernel) ⟨Nat.le_of_ble_eq_true rfl, Nat.le_of_ble_eq_true rfl⟩ ⟨by omega, by omega⟩ [0, 22, 23] 26 ⟨rfl, rfl, rfl, ⟨Or.inl rfl, Or.inr rfl, Or.inr rfl, trivial⟩⟩ (fun h => nomatch h) (Nat.le_of_ble_eq_true rfl) ⟨⟨Or.inr (by first | exact ⟨rfl, pR_B _ (by decide)⟩ | exact ⟨rfl, uR_B (by decide) (by decide)⟩), Or.inr rfl, Or.inr trivial, Or.inr rfl, Or.inr trivial, Or.inr trivial, Or.inr trivial, Or.inr trivial, Or.inr trivial, Or.inr trivial, Or.inr trivial, Or.inr trivial, Or.inr trivial, Or.inr trivial, Or.inr trivial, Or.inr trivial, Or.inr trivial, Or.inr trivial, Or.inr trivial, Or.inr trivial, Or.inr trivial, Or.inr trivial, Or.inl rfl, Or.inl rfl, Or.inr trivial, Or.inr trivial, trivial⟩, rfl, rfl, rfl, Nat.le_of_ble_eq_true rfl⟩ rfl rfl dX1_cool_280 (fun r_280 w_280 hp => ?_) (fun _ _ h => h.elim)
                    obtain ⟨rfl, rfl⟩ := hp
                    rw [q3]
                    refine z_weq (w' := [zPl _ _, zO _ [zr _ _, zr _ _, zr _ _, zr _ _, zr _ _, zi _, zi _, zr _ _, zr _ _], zH, zO _ [zr _ _, zi _, zi _, zi _], zAi 0 24 _, zH, zH, zH, zH, zH, zH, zH, zH, zH, zH, zH, zH, zH, zH, zH, zH, zH, zO _ [zi _, zi _, zr _ _], zAi 0 24 _, zAi 0 L _, zAi 0 3 _]) rfl ?_
                    refine z_seq (S' := []) rfl ?_
                    exact fin (lcg (lcg (lcg s.1)), s.2.1, s.2.2) _ _ _ _ _ _ _ _ _ hlt (cst_n (an _ rfl (Or.inr (Or.inr c_235)))).symm
                · refine z_iload F dX1_cool_238 rfl ?_
                  refine z_istore F dX1_cool_240 (Nat.le_of_ble_eq_true rfl) ?_
                  refine z_leq (L' := [_, _, _, _, _, _, _, _, _, _, _, _, _, _, _, _]) rfl ?_
                  refine z_iincN F 1 dX1_cool_242 rfl rfl ?_
                  refine z_leq (L' := [_, _, _, _, _, _, _, _, _, _, _, _, _, _, _, _]) rfl ?_
                  refine z_aload F dX1_cool_245 rfl ?_
                  refine z_aload F dX1_cool_247 rfl ?_
                  refine z_callV F (c_tellRow n (nI d) (cgo n s.2.1 i0 j0 (cl3 s.1)) _ L h24 (Nat.le_of_eq (q2.trans k2)) (by omega)) 1 rfl (lw_V q947 q785 q786 q116 q787) (by decide +kernel) ⟨Nat.le_of_ble_eq_true rfl, Nat.le_of_ble_eq_true rfl⟩ ⟨by omega, by omega⟩ [0, 22, 23, 24] 26 ⟨rfl, rfl, rfl, ⟨Or.inl rfl, Or.inr rfl, Or.inr rfl, Or.inr rfl, trivial⟩⟩ (fun h => nomatch h) (Nat.le_of_ble_eq_true rfl) ⟨⟨Or.inr (by first | exact ⟨rfl, pR_B _ (by decide)⟩ | exact ⟨rfl, uR_B (by decide) (by decide)⟩), Or.inr rfl, Or.inr trivial, Or.inr rfl, Or.inr trivial, Or.inr trivial, Or.inr trivial, Or.inr trivial, Or.inr trivial, Or.inr trivial, Or.inr trivial, Or.inr trivial, Or.inr trivial, Or.inr trivial, Or.inr trivial, Or.inr trivial, Or.inr trivial, Or.inr trivial, Or.inr trivial, Or.inr trivial, Or.inr trivial, Or.inr trivial, Or.inl rfl, Or.inl rfl, Or.inl rfl, Or.inr trivial, trivial⟩, rfl, rfl, rfl, Nat.le_of_ble_eq_true rfl⟩ rfl zC5 rfl rfl dX1_cool_249 (fun r_249 w_249 hp => ?_) (fun _ _ h => h.elim)
                  obtain ⟨rfl, rfl⟩ := hp
                  refine z_weq (w' := [zPl _ _, zO _ [zr _ _, zr _ _, zr _ _, zr _ _, zr _ _, zi _, zi _, zr _ _, zr _ _], zH, zO _ [zr _ _, zi _, zi _, zi _], zAi 0 24 _, zH, zH, zH, zH, zH, zH, zH, zH, zH, zH, zH, zH, zH, zH, zH, zH, zH, zO _ [zi _, zi _, zr _ _], zAi 0 24 _, zAi 0 L _, zAi 0 3 _]) rfl ?_
                  refine z_seq (S' := []) rfl ?_
                  refine z_goto F (tgt := 283) dX1_cool_252 (by decide) ?_
                  exact fin (lcg (lcg (lcg s.1)), cgo n s.2.1 i0 j0 (cl3 s.1), s.2.2 + 1) _ _ _ _ _ _ _ _ _ hlt (y2 (ay _ rfl c_173 c_204 c_235)).symm
              · rw [if_neg (by rw [c_204]; decide)]
                refine z_goto F (tgt := 283) dX1_cool_207 (by decide) ?_
                exact fin (lcg (lcg (lcg s.1)), s.2.1, s.2.2) _ _ _ _ _ _ _ _ _ hlt (cst_n (an _ rfl (Or.inr (Or.inl c_204)))).symm
        · exact absurd c_96 (by omega)
      have r1 := rl_lt (lcg s.1)
      have r2 := rl_lt (lcg (lcg s.1))
      have r3 := rl_lt (lcg (lcg (lcg s.1)))
      have s2 : ∀ (sn g sm : Int32) (D D3 : Nat → Int32), t' < T → D3 0 = nI (cl1 L s.1) → D3 1 = nI (cl2 L s.1) → Z X [some (zr 1 0), some (zi (nI j)), some (zi v0), some (zi (nI T)), some (zi (nI H)), some (zr 22 0), some (zi (nI L)), some (zi (lcg (lcg s.1))), some (zi (nI (cpr n s.2.1))), some (zi (nI s.2.2)), some (zr 24 0), some (zr 25 0), some (zi (nI t')), some (zi (nI 2)), none, none] [] [zPl (zput (pR P) j (zr 22 0)) (zput P j none), xO t fp, zH, eFl 4 sn g sm, zAi 0 24 D, zH, zH, zH, zH, zH, zH, zH, zH, zH, zH, zH, zH, zH, zH, zH, zH, zH, zO 5 [zi (nI n), zi (nI d), zr 23 0], zAi 0 24 s.2.1, zAi 0 L (rowA (prs n s.2.1) r0), zAi 0 3 D3] 4 115 93 := by
        intro sn g sm D D3 hlt d0 d1
        refine z_iload F dX1_cool_93 rfl ?_
        refine z_iconst F (nI 3) dX1_cool_95 rfl ?_
        refine z_icmp_geN F (by omega) (by omega) (tgt := 143) dX1_cool_96 (by decide) (fun c_96 => ?_) (fun c_96 => ?_)
        · exact absurd c_96 (by omega)
        · refine z_iload F dX1_cool_99 rfl ?_
          refine z_ldc F dX1_cool_101 q946 ?_
          refine z_imul F dX1_cool_103 ?_
          refine z_sipush F (nI 12345) dX1_cool_104 rfl ?_
          refine z_iadd F dX1_cool_107 ?_
          refine z_ieq (show _ = lcg (lcg (lcg s.1)) from rfl) ?_
          refine z_istore F dX1_cool_108 (Nat.le_of_ble_eq_true rfl) ?_
          refine z_leq (L' := [_, _, _, _, _, _, _, _, _, _, _, _, _, _, _, _]) rfl ?_
          refine z_aload F dX1_cool_110 rfl ?_
          refine z_iload F dX1_cool_112 rfl ?_
          refine z_iload F dX1_cool_114 rfl ?_
          refine z_bipush F (nI 16) dX1_cool_116 rfl ?_
          refine z_ishr F dX1_cool_118 ?_
          refine z_sipush F (nI 32767) dX1_cool_119 rfl ?_
          refine z_iand F dX1_cool_122 ?_
          refine z_ieq (rl_eq _) ?_
          refine z_iload F dX1_cool_123 rfl ?_
          refine z_iconst F (nI 2) dX1_cool_125 rfl ?_
          refine z_icmp_geN F (by omega) (by omega) (tgt := 134) dX1_cool_126 (by decide) (fun c_126 => ?_) (fun c_126 => ?_)
          · refine z_iconst F (nI 2) dX1_cool_134 rfl ?_
            refine z_iremN F (by omega) (by omega) (by omega) dX1_cool_135 ?_
            refine z_iastN F rfl (Nat.le_of_ble_eq_true rfl) (by omega) dX1_cool_136 ?_
            refine z_weq (w' := [_, _, _, _, _, _, _, _, _, _, _, _, _, _, _, _, _, _, _, _, _, _, _, _, _, _]) rfl ?_
            refine z_iincN F 1 dX1_cool_137 rfl rfl ?_
            refine z_leq (L' := [_, _, _, _, _, _, _, _, _, _, _, _, _, _, _, _]) rfl ?_
            refine z_goto F (tgt := 93) dX1_cool_140 (by decide) ?_
            exact main sn g sm D _ hlt (by rw [upd_at, if_neg (by decide)]; exact d0) (by rw [upd_at, if_neg (by decide)]; exact d1) (by rw [upd_at, if_pos rfl])
          · exact absurd c_126 (by omega)
      have s1 : ∀ (sn g sm : Int32) (D D3 : Nat → Int32), t' < T → D3 0 = nI (cl1 L s.1) → Z X [some (zr 1 0), some (zi (nI j)), some (zi v0), some (zi (nI T)), some (zi (nI H)), some (zr 22 0), some (zi (nI L)), some (zi (lcg s.1)), some (zi (nI (cpr n s.2.1))), some (zi (nI s.2.2)), some (zr 24 0), some (zr 25 0), some (zi (nI t')), some (zi (nI 1)), none, none] [] [zPl (zput (pR P) j (zr 22 0)) (zput P j none), xO t fp, zH, eFl 4 sn g sm, zAi 0 24 D, zH, zH, zH, zH, zH, zH, zH, zH, zH, zH, zH, zH, zH, zH, zH, zH, zH, zO 5 [zi (nI n), zi (nI d), zr 23 0], zAi 0 24 s.2.1, zAi 0 L (rowA (prs n s.2.1) r0), zAi 0 3 D3] 4 115 93 := by
        intro sn g sm D D3 hlt d0
        refine z_iload F dX1_cool_93 rfl ?_
        refine z_iconst F (nI 3) dX1_cool_95 rfl ?_
        refine z_icmp_geN F (by omega) (by omega) (tgt := 143) dX1_cool_96 (by decide) (fun c_96 => ?_) (fun c_96 => ?_)
        · exact absurd c_96 (by omega)
        · refine z_iload F dX1_cool_99 rfl ?_
          refine z_ldc F dX1_cool_101 q946 ?_
          refine z_imul F dX1_cool_103 ?_
          refine z_sipush F (nI 12345) dX1_cool_104 rfl ?_
          refine z_iadd F dX1_cool_107 ?_
          refine z_ieq (show _ = lcg (lcg s.1) from rfl) ?_
          refine z_istore F dX1_cool_108 (Nat.le_of_ble_eq_true rfl) ?_
          refine z_leq (L' := [_, _, _, _, _, _, _, _, _, _, _, _, _, _, _, _]) rfl ?_
          refine z_aload F dX1_cool_110 rfl ?_
          refine z_iload F dX1_cool_112 rfl ?_
          refine z_iload F dX1_cool_114 rfl ?_
          refine z_bipush F (nI 16) dX1_cool_116 rfl ?_
          refine z_ishr F dX1_cool_118 ?_
          refine z_sipush F (nI 32767) dX1_cool_119 rfl ?_
          refine z_iand F dX1_cool_122 ?_
          refine z_ieq (rl_eq _) ?_
          refine z_iload F dX1_cool_123 rfl ?_
          refine z_iconst F (nI 2) dX1_cool_125 rfl ?_
          refine z_icmp_geN F (by omega) (by omega) (tgt := 134) dX1_cool_126 (by decide) (fun c_126 => ?_) (fun c_126 => ?_)
          · exact absurd c_126 (by omega)
          · refine z_iload F dX1_cool_129 rfl ?_
            refine z_goto F (tgt := 135) dX1_cool_131 (by decide) ?_
            refine z_iremN F (by omega) (by omega) (by omega) dX1_cool_135 ?_
            refine z_iastN F rfl (Nat.le_of_ble_eq_true rfl) (by omega) dX1_cool_136 ?_
            refine z_weq (w' := [_, _, _, _, _, _, _, _, _, _, _, _, _, _, _, _, _, _, _, _, _, _, _, _, _, _]) rfl ?_
            refine z_iincN F 1 dX1_cool_137 rfl rfl ?_
            refine z_leq (L' := [_, _, _, _, _, _, _, _, _, _, _, _, _, _, _, _]) rfl ?_
            refine z_goto F (tgt := 93) dX1_cool_140 (by decide) ?_
            exact s2 sn g sm D _ hlt (by rw [upd_at, if_neg (by decide)]; exact d0) (by rw [upd_at, if_pos rfl]; rfl)
      have s0 : ∀ (sn g sm : Int32) (D D3 : Nat → Int32), t' < T → Z X [some (zr 1 0), some (zi (nI j)), some (zi v0), some (zi (nI T)), some (zi (nI H)), some (zr 22 0), some (zi (nI L)), some (zi s.1), some (zi (nI (cpr n s.2.1))), some (zi (nI s.2.2)), some (zr 24 0), some (zr 25 0), some (zi (nI t')), some (zi (nI 0)), none, none] [] [zPl (zput (pR P) j (zr 22 0)) (zput P j none), xO t fp, zH, eFl 4 sn g sm, zAi 0 24 D, zH, zH, zH, zH, zH, zH, zH, zH, zH, zH, zH, zH, zH, zH, zH, zH, zH, zO 5 [zi (nI n), zi (nI d), zr 23 0], zAi 0 24 s.2.1, zAi 0 L (rowA (prs n s.2.1) r0), zAi 0 3 D3] 4 115 93 := by
        intro sn g sm D D3 hlt
        refine z_iload F dX1_cool_93 rfl ?_
        refine z_iconst F (nI 3) dX1_cool_95 rfl ?_
        refine z_icmp_geN F (by omega) (by omega) (tgt := 143) dX1_cool_96 (by decide) (fun c_96 => ?_) (fun c_96 => ?_)
        · exact absurd c_96 (by omega)
        · refine z_iload F dX1_cool_99 rfl ?_
          refine z_ldc F dX1_cool_101 q946 ?_
          refine z_imul F dX1_cool_103 ?_
          refine z_sipush F (nI 12345) dX1_cool_104 rfl ?_
          refine z_iadd F dX1_cool_107 ?_
          refine z_ieq (show _ = lcg s.1 from rfl) ?_
          refine z_istore F dX1_cool_108 (Nat.le_of_ble_eq_true rfl) ?_
          refine z_leq (L' := [_, _, _, _, _, _, _, _, _, _, _, _, _, _, _, _]) rfl ?_
          refine z_aload F dX1_cool_110 rfl ?_
          refine z_iload F dX1_cool_112 rfl ?_
          refine z_iload F dX1_cool_114 rfl ?_
          refine z_bipush F (nI 16) dX1_cool_116 rfl ?_
          refine z_ishr F dX1_cool_118 ?_
          refine z_sipush F (nI 32767) dX1_cool_119 rfl ?_
          refine z_iand F dX1_cool_122 ?_
          refine z_ieq (rl_eq _) ?_
          refine z_iload F dX1_cool_123 rfl ?_
          refine z_iconst F (nI 2) dX1_cool_125 rfl ?_
          refine z_icmp_geN F (by omega) (by omega) (tgt := 134) dX1_cool_126 (by decide) (fun c_126 => ?_) (fun c_126 => ?_)
          · exact absurd c_126 (by omega)
          · refine z_iload F dX1_cool_129 rfl ?_
            refine z_goto F (tgt := 135) dX1_cool_131 (by decide) ?_
            refine z_iremN F (by omega) (by omega) (by omega) dX1_cool_135 ?_
            refine z_iastN F rfl (Nat.le_of_ble_eq_true rfl) (by omega) dX1_cool_136 ?_
            refine z_weq (w' := [_, _, _, _, _, _, _, _, _, _, _, _, _, _, _, _, _, _, _, _, _, _, _, _, _, _]) rfl ?_
            refine z_iincN F 1 dX1_cool_137 rfl rfl ?_
            refine z_leq (L' := [_, _, _, _, _, _, _, _, _, _, _, _, _, _, _, _]) rfl ?_
            refine z_goto F (tgt := 93) dX1_cool_140 (by decide) ?_
            exact s1 sn g sm D _ hlt (by rw [upd_at, if_pos rfl]; rfl)
      refine z_iload F dX1_cool_84 rfl ?_
      refine z_iload_n F dX1_cool_86 rfl ?_
      refine z_icmp_geN F (by omega) (by omega) (tgt := 289) dX1_cool_87 (by decide) (fun c_87 => ?_) (fun c_87 => ?_)
      · have et : t' = T := by omega
        subst et
        have e0 := hco2 (by omega)
        rw [← hs] at e0
        refine z_iload F dX1_cool_289 rfl ?_
        refine z_loc [some _, some _, some _, some _, some _, none, some _, some _, some _, some _, none, none, some _, none, none, none] ⟨rfl, rfl, rfl, rfl, rfl, rfl, rfl, rfl, rfl, rfl, trivial⟩ ?_
        refine z_unfocus F rfl j 22 23 22 hj zput_self rfl rfl (Nat.le_of_ble_eq_true rfl) (Nat.le_of_ble_eq_true rfl) (Nat.le_of_ble_eq_true rfl) (Nat.le_of_ble_eq_true rfl) [zO _ [zr _ _, zr _ _, zr _ _, zr _ _, zr _ _, zi _, zi _, zr _ _, zr _ _], zH, zO _ [zr _ _, zi _, zi _, zi _], zAi 0 24 _, zH, zH, zH, zH, zH, zH, zH, zH, zH, zH, zH, zH, zH, zH, zH, zH, zH] rfl ⟨rfl, trivial, rfl, trivial, trivial, trivial, trivial, trivial, trivial, trivial, trivial, trivial, trivial, trivial, trivial, trivial, trivial, trivial, trivial, trivial, trivial, trivial⟩ uOK rfl rfl ?_
        refine z_weq (w' := zPl (pR (zput P j (some _))) (zput P j (some _)) :: _) (congrArg (fun z => z :: _) uPl2) ?_
        exact z_iret F E rfl dX1_cool_291 (by omega) (by omega) (⟨by rw [e0], sn, g, sm, D, by rw [e0]⟩)
      · refine z_iconst F (nI 0) dX1_cool_90 rfl ?_
        refine z_istore F dX1_cool_91 (Nat.le_of_ble_eq_true rfl) ?_
        refine z_leq (L' := [_, _, _, _, _, _, _, _, _, _, _, _, _, _, _, _]) rfl ?_
        exact s0 sn g sm D D3 (by omega)
  refine z_aload_n F dX1_cool_0 rfl ?_
  refine z_iload_n F dX1_cool_1 rfl ?_
  refine z_callV F (c_netAt_ok P t fp j hj hP) 1 rfl (lw_V q429 q431 qs0 q109 q432) (by decide +kernel) ⟨Nat.le_of_ble_eq_true rfl, Nat.le_of_ble_eq_true rfl⟩ ⟨by omega, by omega⟩ [0, 1, 2, 3, 4, 5, 6, 7, 8, 9, 10, 11, 12, 13, 14, 15, 16, 17, 18, 19, 20, 21] 22 ⟨rfl, rfl, rfl, ⟨Or.inr (congrArg some (zrnP rfl).symm), Or.inr rfl, Or.inl rfl, Or.inl rfl, Or.inl rfl, Or.inl rfl, Or.inl rfl, Or.inl rfl, Or.inl rfl, Or.inl rfl, Or.inl rfl, Or.inl rfl, Or.inl rfl, Or.inl rfl, Or.inl rfl, Or.inl rfl, Or.inl rfl, Or.inl rfl, Or.inl rfl, Or.inl rfl, Or.inl rfl, Or.inl rfl, trivial⟩⟩ (fun _ => rfl) (Nat.le_of_ble_eq_true rfl) ⟨⟨Or.inl rfl, Or.inl rfl, Or.inr trivial, Or.inr rfl, Or.inr trivial, Or.inr trivial, Or.inr trivial, Or.inr trivial, Or.inr trivial, Or.inr trivial, Or.inr trivial, Or.inr trivial, Or.inr trivial, Or.inr trivial, Or.inr trivial, Or.inr trivial, Or.inr trivial, Or.inr trivial, Or.inr trivial, Or.inr trivial, Or.inr trivial, Or.inr trivial, trivial⟩, rfl, rfl, rfl, Nat.le_of_ble_eq_true rfl⟩ rfl zC1 rfl rfl dX1_cool_2 (fun r_2 w_2 hp => ?_) (fun _ _ h => h.elim)
  obtain ⟨rfl, rfl⟩ := hp
  refine z_weq (w' := zPl (pR _) _ :: _) (congrArg (fun z => z :: _) (zrnP rfl)) ?_
  refine z_weq (w' := [zPl _ _, zO _ [zr _ _, zr _ _, zr _ _, zr _ _, zr _ _, zi _, zi _, zr _ _, zr _ _], zH, zO _ [zr _ _, zi _, zi _, zi _], zAi 0 24 _, zH, zH, zH, zH, zH, zH, zH, zH, zH, zH, zH, zH, zH, zH, zH, zH, zH]) rfl ?_
  refine z_seq (S' := zr _ _ :: _) rfl ?_
  refine z_astore F dX1_cool_5 (Nat.le_of_ble_eq_true rfl) ?_
  refine z_leq (L' := [_, _, _, _, _, _, _, _, _, _, _, _, _, _, _, _]) rfl ?_
  refine z_foc F j hj hP (N := 22) (M := 23) (L' := [_, _, _, _, _, some (zr 22 0), _, _, _, _, _, _, _, _, _, _]) (S' := []) rfl rfl (Nat.le_of_ble_eq_true rfl) ⟨rfl, trivial, rfl, trivial, trivial, trivial, trivial, trivial, trivial, trivial, trivial, trivial, trivial, trivial, trivial, trivial, trivial, trivial, trivial, trivial, trivial, trivial⟩ ⟨Or.inl rfl, Or.inl rfl, Or.inl rfl, Or.inl rfl, Or.inl rfl, Or.inr ⟨rfl, rfl⟩, Or.inl rfl, Or.inl rfl, Or.inl rfl, Or.inl rfl, Or.inl rfl, Or.inl rfl, Or.inl rfl, Or.inl rfl, Or.inl rfl, Or.inl rfl, trivial⟩ rfl trivial rfl ?_
  refine z_weq (w' := [zPl _ _, zO _ [zr _ _, zr _ _, zr _ _, zr _ _, zr _ _, zi _, zi _, zr _ _, zr _ _], zH, zO _ [zr _ _, zi _, zi _, zi _], zAi 0 24 _, zH, zH, zH, zH, zH, zH, zH, zH, zH, zH, zH, zH, zH, zH, zH, zH, zH, zO _ [zi _, zi _, zr _ _], zAi 0 24 _]) rfl ?_
  refine z_iload_n F dX1_cool_7 rfl ?_
  refine z_iconst F (nI 0) dX1_cool_8 rfl ?_
  refine z_sipush F (nI 500) dX1_cool_9 rfl ?_
  refine z_callS F (c_in (nI T) (nI 0) (nI 500)) 3 rfl (lw_S q349 q350 q109 q351) (by decide +kernel) ⟨Nat.le_of_ble_eq_true rfl, Nat.le_of_ble_eq_true rfl⟩ ⟨by omega, by omega⟩ [0] 24 ⟨rfl, rfl, rfl, ⟨Or.inl rfl, trivial⟩⟩ (fun h => nomatch h) (Nat.le_of_ble_eq_true rfl) ⟨⟨Or.inr (by first | exact ⟨rfl, pR_B _ (by decide)⟩ | exact ⟨rfl, uR_B (by decide) (by decide)⟩), Or.inr rfl, Or.inr trivial, Or.inr rfl, Or.inr trivial, Or.inr trivial, Or.inr trivial, Or.inr trivial, Or.inr trivial, Or.inr trivial, Or.inr trivial, Or.inr trivial, Or.inr trivial, Or.inr trivial, Or.inr trivial, Or.inr trivial, Or.inr trivial, Or.inr trivial, Or.inr trivial, Or.inr trivial, Or.inr trivial, Or.inr trivial, Or.inr rfl, Or.inr trivial, trivial⟩, rfl, rfl, rfl, Nat.le_of_ble_eq_true rfl⟩ rfl rfl dX1_cool_12 (fun r_12 w_12 hp => ?_) (fun _ _ h => h.elim)
  obtain ⟨rfl, rfl⟩ := hp
  rw [b1]
  refine z_weq (w' := [zPl _ _, zO _ [zr _ _, zr _ _, zr _ _, zr _ _, zr _ _, zi _, zi _, zr _ _, zr _ _], zH, zO _ [zr _ _, zi _, zi _, zi _], zAi 0 24 _, zH, zH, zH, zH, zH, zH, zH, zH, zH, zH, zH, zH, zH, zH, zH, zH, zH, zO _ [zi _, zi _, zr _ _], zAi 0 24 _]) rfl ?_
  refine z_seq (S' := zi _ :: _) rfl ?_
  refine z_if_eqB F (tgt := 34) dX1_cool_15 (by decide) (fun c_15 => ?_) (fun c_15 => ?_)
  · cases c_15
  · refine z_iload F dX1_cool_18 rfl ?_
    refine z_iconst F (nI 0) dX1_cool_20 rfl ?_
    refine z_sipush F (nI 10000) dX1_cool_21 rfl ?_
    refine z_callS F (c_in (nI H) (nI 0) (nI 10000)) 3 rfl (lw_S q349 q350 q109 q351) (by decide +kernel) ⟨Nat.le_of_ble_eq_true rfl, Nat.le_of_ble_eq_true rfl⟩ ⟨by omega, by omega⟩ [0] 24 ⟨rfl, rfl, rfl, ⟨Or.inl rfl, trivial⟩⟩ (fun h => nomatch h) (Nat.le_of_ble_eq_true rfl) ⟨⟨Or.inr (by first | exact ⟨rfl, pR_B _ (by decide)⟩ | exact ⟨rfl, uR_B (by decide) (by decide)⟩), Or.inr rfl, Or.inr trivial, Or.inr rfl, Or.inr trivial, Or.inr trivial, Or.inr trivial, Or.inr trivial, Or.inr trivial, Or.inr trivial, Or.inr trivial, Or.inr trivial, Or.inr trivial, Or.inr trivial, Or.inr trivial, Or.inr trivial, Or.inr trivial, Or.inr trivial, Or.inr trivial, Or.inr trivial, Or.inr trivial, Or.inr trivial, Or.inr rfl, Or.inr trivial, trivial⟩, rfl, rfl, rfl, Nat.le_of_ble_eq_true rfl⟩ rfl rfl dX1_cool_24 (fun r_24 w_24 hp => ?_) (fun _ _ h => h.elim)
    obtain ⟨rfl, rfl⟩ := hp
    rw [b2]
    refine z_weq (w' := [zPl _ _, zO _ [zr _ _, zr _ _, zr _ _, zr _ _, zr _ _, zi _, zi _, zr _ _, zr _ _], zH, zO _ [zr _ _, zi _, zi _, zi _], zAi 0 24 _, zH, zH, zH, zH, zH, zH, zH, zH, zH, zH, zH, zH, zH, zH, zH, zH, zH, zO _ [zi _, zi _, zr _ _], zAi 0 24 _]) rfl ?_
    refine z_seq (S' := zi _ :: _) rfl ?_
    refine z_if_eqB F (tgt := 34) dX1_cool_27 (by decide) (fun c_27 => ?_) (fun c_27 => ?_)
    · cases c_27
    · refine z_iconstB F true dX1_cool_30 rfl ?_
      refine z_goto F (tgt := 35) dX1_cool_31 (by decide) ?_
      refine z_callS F (c_rgt true) 1 rfl (lw_S q538 q539 q109 q540) (by decide +kernel) ⟨Nat.le_of_ble_eq_true rfl, Nat.le_of_ble_eq_true rfl⟩ ⟨by omega, by omega⟩ [0] 24 ⟨rfl, rfl, rfl, ⟨Or.inl rfl, trivial⟩⟩ (fun h => nomatch h) (Nat.le_of_ble_eq_true rfl) ⟨⟨Or.inr (by first | exact ⟨rfl, pR_B _ (by decide)⟩ | exact ⟨rfl, uR_B (by decide) (by decide)⟩), Or.inr rfl, Or.inr trivial, Or.inr rfl, Or.inr trivial, Or.inr trivial, Or.inr trivial, Or.inr trivial, Or.inr trivial, Or.inr trivial, Or.inr trivial, Or.inr trivial, Or.inr trivial, Or.inr trivial, Or.inr trivial, Or.inr trivial, Or.inr trivial, Or.inr trivial, Or.inr trivial, Or.inr trivial, Or.inr trivial, Or.inr trivial, Or.inr rfl, Or.inr trivial, trivial⟩, rfl, rfl, rfl, Nat.le_of_ble_eq_true rfl⟩ rfl rfl dX1_cool_35 (fun r_35 w_35 hp => ?_) (fun E_ w_ hx => by obtain ⟨-, hb, -⟩ := hx; cases hb)
      obtain ⟨rfl, -, rfl⟩ := hp
      refine z_weq (w' := [zPl _ _, zO _ [zr _ _, zr _ _, zr _ _, zr _ _, zr _ _, zi _, zi _, zr _ _, zr _ _], zH, zO _ [zr _ _, zi _, zi _, zi _], zAi 0 24 _, zH, zH, zH, zH, zH, zH, zH, zH, zH, zH, zH, zH, zH, zH, zH, zH, zH, zO _ [zi _, zi _, zr _ _], zAi 0 24 _]) rfl ?_
      refine z_seq (S' := []) rfl ?_
      refine z_aload F dX1_cool_38 rfl ?_
      refine z_callV F (c_netCount n (nI d) f h24) 0 rfl (lw_V q765 q766 q767 q116 q768) (by decide +kernel) ⟨Nat.le_of_ble_eq_true rfl, Nat.le_of_ble_eq_true rfl⟩ ⟨by omega, by omega⟩ [0, 22, 23] 24 ⟨rfl, rfl, rfl, ⟨Or.inl rfl, Or.inr rfl, Or.inr rfl, trivial⟩⟩ (fun h => nomatch h) (Nat.le_of_ble_eq_true rfl) ⟨⟨Or.inr (by first | exact ⟨rfl, pR_B _ (by decide)⟩ | exact ⟨rfl, uR_B (by decide) (by decide)⟩), Or.inr rfl, Or.inr trivial, Or.inr rfl, Or.inr trivial, Or.inr trivial, Or.inr trivial, Or.inr trivial, Or.inr trivial, Or.inr trivial, Or.inr trivial, Or.inr trivial, Or.inr trivial, Or.inr trivial, Or.inr trivial, Or.inr trivial, Or.inr trivial, Or.inr trivial, Or.inr trivial, Or.inr trivial, Or.inr trivial, Or.inr trivial, Or.inl rfl, Or.inl rfl, trivial⟩, rfl, rfl, rfl, Nat.le_of_ble_eq_true rfl⟩ rfl zC5 rfl rfl dX1_cool_40 (fun r_40 w_40 hp => ?_) (fun _ _ h => h.elim)
      obtain ⟨rfl, rfl⟩ := hp
      rw [hl, Nat.mul_div_cancel_left _ (by decide)]
      refine z_weq (w' := [zPl _ _, zO _ [zr _ _, zr _ _, zr _ _, zr _ _, zr _ _, zi _, zi _, zr _ _, zr _ _], zH, zO _ [zr _ _, zi _, zi _, zi _], zAi 0 24 _, zH, zH, zH, zH, zH, zH, zH, zH, zH, zH, zH, zH, zH, zH, zH, zH, zH, zO _ [zi _, zi _, zr _ _], zAi 0 24 _]) rfl ?_
      refine z_seq (S' := zi _ :: _) rfl ?_
      refine z_istore F dX1_cool_43 (Nat.le_of_ble_eq_true rfl) ?_
      refine z_leq (L' := [_, _, _, _, _, _, _, _, _, _, _, _, _, _, _, _]) rfl ?_
      refine z_iload F dX1_cool_45 rfl ?_
      refine z_if_neN F (by omega) (tgt := 52) dX1_cool_47 (by decide) (fun c_47 => ?_) (fun c_47 => ?_)
      · refine z_iload_n F dX1_cool_52 rfl ?_
        refine z_istore F dX1_cool_53 (Nat.le_of_ble_eq_true rfl) ?_
        refine z_leq (L' := [_, _, _, _, _, _, _, _, _, _, _, _, _, _, _, _]) rfl ?_
        refine z_aload_n F dX1_cool_55 rfl ?_
        refine z_get F zC1 (f := 2) rfl (Nat.le_of_ble_eq_true rfl) q316 rfl dX1_cool_56 ?_
        refine z_aload F dX1_cool_59 rfl ?_
        refine z_callV F (c_price n (nI d) f _ _ _ _ h24) 1 rfl (lw_V q862 q863 q864 q110 q865) (by decide +kernel) ⟨Nat.le_of_ble_eq_true rfl, Nat.le_of_ble_eq_true rfl⟩ ⟨by omega, by omega⟩ [0, 3, 4, 22, 23] 24 ⟨rfl, rfl, rfl, ⟨Or.inl rfl, Or.inr rfl, Or.inr rfl, Or.inr rfl, Or.inr rfl, trivial⟩⟩ (fun h => nomatch h) (Nat.le_of_ble_eq_true rfl) ⟨⟨Or.inr (by first | exact ⟨rfl, pR_B _ (by decide)⟩ | exact ⟨rfl, uR_B (by decide) (by decide)⟩), Or.inr rfl, Or.inr trivial, Or.inl rfl, Or.inl rfl, Or.inr trivial, Or.inr trivial, Or.inr trivial, Or.inr trivial, Or.inr trivial, Or.inr trivial, Or.inr trivial, Or.inr trivial, Or.inr trivial, Or.inr trivial, Or.inr trivial, Or.inr trivial, Or.inr trivial, Or.inr trivial, Or.inr trivial, Or.inr trivial, Or.inr trivial, Or.inl rfl, Or.inl rfl, trivial⟩, rfl, rfl, rfl, Nat.le_of_ble_eq_true rfl⟩ rfl zC2 rfl rfl dX1_cool_61 (fun r_61 w_61 hp => ?_) (fun _ _ h => h.elim)
        obtain ⟨rfl, sn1, g1, sm1, D1, rfl⟩ := hp
        refine z_weq (w' := [zPl _ _, zO _ [zr _ _, zr _ _, zr _ _, zr _ _, zr _ _, zi _, zi _, zr _ _, zr _ _], zH, zO _ [zr _ _, zi _, zi _, zi _], zAi 0 24 _, zH, zH, zH, zH, zH, zH, zH, zH, zH, zH, zH, zH, zH, zH, zH, zH, zH, zO _ [zi _, zi _, zr _ _], zAi 0 24 _]) rfl ?_
        refine z_seq (S' := zi _ :: _) rfl ?_
        refine z_istore F dX1_cool_64 (Nat.le_of_ble_eq_true rfl) ?_
        refine z_leq (L' := [_, _, _, _, _, _, _, _, _, _, _, _, _, _, _, _]) rfl ?_
        refine z_iconst F (nI 0) dX1_cool_66 rfl ?_
        refine z_istore F dX1_cool_67 (Nat.le_of_ble_eq_true rfl) ?_
        refine z_leq (L' := [_, _, _, _, _, _, _, _, _, _, _, _, _, _, _, _]) rfl ?_
        refine z_aload F dX1_cool_69 rfl ?_
        refine z_callV F (c_row n (nI d) f h.sy (by omega)) 0 rfl (lw_V q779 q780 q781 q116 q782) (by decide +kernel) ⟨Nat.le_of_ble_eq_true rfl, Nat.le_of_ble_eq_true rfl⟩ ⟨by omega, by omega⟩ [0, 22, 23] 24 ⟨rfl, rfl, rfl, ⟨Or.inl rfl, Or.inr rfl, Or.inr rfl, trivial⟩⟩ (fun h => nomatch h) (Nat.le_of_ble_eq_true rfl) ⟨⟨Or.inr (by first | exact ⟨rfl, pR_B _ (by decide)⟩ | exact ⟨rfl, uR_B (by decide) (by decide)⟩), Or.inr rfl, Or.inr trivial, Or.inr rfl, Or.inr trivial, Or.inr trivial, Or.inr trivial, Or.inr trivial, Or.inr trivial, Or.inr trivial, Or.inr trivial, Or.inr trivial, Or.inr trivial, Or.inr trivial, Or.inr trivial, Or.inr trivial, Or.inr trivial, Or.inr trivial, Or.inr trivial, Or.inr trivial, Or.inr trivial, Or.inr trivial, Or.inl rfl, Or.inl rfl, trivial⟩, rfl, rfl, rfl, Nat.le_of_ble_eq_true rfl⟩ rfl zC5 rfl rfl dX1_cool_71 (fun r_71 w_71 hp => ?_) (fun _ _ h => h.elim)
        obtain ⟨rfl, rfl⟩ := hp
        rw [hLe]
        refine z_weq (w' := [zPl _ _, zO _ [zr _ _, zr _ _, zr _ _, zr _ _, zr _ _, zi _, zi _, zr _ _, zr _ _], zH, zO _ [zr _ _, zi _, zi _, zi _], zAi 0 24 _, zH, zH, zH, zH, zH, zH, zH, zH, zH, zH, zH, zH, zH, zH, zH, zH, zH, zO _ [zi _, zi _, zr _ _], zAi 0 24 _, zAi 0 L _]) rfl ?_
        refine z_seq (S' := zr _ _ :: _) rfl ?_
        refine z_astore F dX1_cool_74 (Nat.le_of_ble_eq_true rfl) ?_
        refine z_leq (L' := [_, _, _, _, _, _, _, _, _, _, _, _, _, _, _, _]) rfl ?_
        refine z_iconst F (nI 3) dX1_cool_76 rfl ?_
        refine z_newaI F _ 25 q174 (nI_pos (by omega)) (zcl_n (by omega)) (by omega) rfl (Nat.le_of_ble_eq_true rfl) ⟨(by first | exact pR_N _ (Nat.le_of_ble_eq_true rfl) | exact uR_N (Nat.le_of_ble_eq_true rfl) (Nat.le_of_ble_eq_true rfl)), rfl, trivial, rfl, trivial, trivial, trivial, trivial, trivial, trivial, trivial, trivial, trivial, trivial, trivial, trivial, trivial, trivial, trivial, trivial, trivial, trivial, rfl, trivial, trivial, trivial⟩ rfl rfl ⟨by omega, by omega⟩ dX1_cool_77 ?_
        refine z_weq (w' := [_, _, _, _, _, _, _, _, _, _, _, _, _, _, _, _, _, _, _, _, _, _, _, _, _, _]) rfl ?_
        refine z_astore F dX1_cool_79 (Nat.le_of_ble_eq_true rfl) ?_
        refine z_leq (L' := [_, _, _, _, _, _, _, _, _, _, _, _, _, _, _, _]) rfl ?_
        refine z_iconst F (nI 0) dX1_cool_81 rfl ?_
        refine z_istore F dX1_cool_82 (Nat.le_of_ble_eq_true rfl) ?_
        refine z_leq (L' := [_, _, _, _, _, _, _, _, _, _, _, _, _, _, _, _]) rfl ?_
        refine z_widen (k' := 4) (n' := 115) (by omega) (by omega) ?_
        exact loop (by omega) _ 0 (v0, f, 0) sn1 g1 sm1 D1 (fun _ => 0) _ (Nat.lt_succ_self _) (by omega) rfl
      · refine z_iconst F (nI 0) dX1_cool_50 rfl ?_
        refine z_loc [some _, some _, some _, some _, some _, none, some _, none, none, none, none, none, none, none, none, none] ⟨rfl, rfl, rfl, rfl, rfl, rfl, trivial⟩ ?_
        refine z_unfocus F rfl j 22 23 22 hj zput_self rfl rfl (Nat.le_of_ble_eq_true rfl) (Nat.le_of_ble_eq_true rfl) (Nat.le_of_ble_eq_true rfl) (Nat.le_of_ble_eq_true rfl) [zO _ [zr _ _, zr _ _, zr _ _, zr _ _, zr _ _, zi _, zi _, zr _ _, zr _ _], zH, zO _ [zr _ _, zi _, zi _, zi _], zAi 0 24 _, zH, zH, zH, zH, zH, zH, zH, zH, zH, zH, zH, zH, zH, zH, zH, zH, zH] rfl ⟨rfl, trivial, rfl, trivial, trivial, trivial, trivial, trivial, trivial, trivial, trivial, trivial, trivial, trivial, trivial, trivial, trivial, trivial, trivial, trivial, trivial, trivial⟩ uOK rfl rfl ?_
        refine z_weq (w' := zPl (pR (zput P j (some _))) (zput P j (some _)) :: _) (congrArg (fun z => z :: _) uPl2) ?_
        exact z_iret F E rfl dX1_cool_51 (by omega) (by omega) (⟨by rw [hco c_47], sn0, g0, sm0, D, by rw [hco c_47]; rfl⟩)
theorem c_pcool_bad (P : zPt) (t : Nat) (fp : Int32) (j n d : Nat) (f : Nat → Int32) (v0 x y : Int32) (hj : j < 8) (hP : P j = some (nI n, nI d, f)) (hx : (inB x (nI 0) (nI 500) && inB y (nI 0) (nI 10000)) = false) : zCtr yX1_cool cX1_cool 16 (some .int) 8 5 130 [zr 1 0, zi (nI j), zi v0, zi x, zi y] (xH P t fp) (fun r w => False) (fun E w => E = eIAE ∧ True ∧ w = xH P t fp) := by
  refine z_start (by decide) [some (zr 1 0), some (zi (nI j)), some (zi v0), some (zi x), some (zi y), none, none, none, none, none, none, none, none, none, none, none] rfl (fun _ => Nat.le_of_ble_eq_true rfl) (fun _ => rfl) (fun X F E hno hin => ?_)
  refine z_aload_n F dX1_cool_0 rfl ?_
  refine z_iload_n F dX1_cool_1 rfl ?_
  refine z_callV F (c_netAt_ok P t fp j hj hP) 1 rfl (lw_V q429 q431 qs0 q109 q432) (by decide +kernel) ⟨Nat.le_of_ble_eq_true rfl, Nat.le_of_ble_eq_true rfl⟩ ⟨by omega, by omega⟩ [0, 1, 2, 3, 4, 5, 6, 7, 8, 9, 10, 11, 12, 13, 14, 15, 16, 17, 18, 19, 20, 21] 22 ⟨rfl, rfl, rfl, ⟨Or.inr (congrArg some (zrnP rfl).symm), Or.inr rfl, Or.inl rfl, Or.inl rfl, Or.inl rfl, Or.inl rfl, Or.inl rfl, Or.inl rfl, Or.inl rfl, Or.inl rfl, Or.inl rfl, Or.inl rfl, Or.inl rfl, Or.inl rfl, Or.inl rfl, Or.inl rfl, Or.inl rfl, Or.inl rfl, Or.inl rfl, Or.inl rfl, Or.inl rfl, Or.inl rfl, trivial⟩⟩ (fun _ => rfl) (Nat.le_of_ble_eq_true rfl) ⟨⟨Or.inl rfl, Or.inl rfl, Or.inr trivial, Or.inr trivial, Or.inr trivial, Or.inr trivial, Or.inr trivial, Or.inr trivial, Or.inr trivial, Or.inr trivial, Or.inr trivial, Or.inr trivial, Or.inr trivial, Or.inr trivial, Or.inr trivial, Or.inr trivial, Or.inr trivial, Or.inr trivial, Or.inr trivial, Or.inr trivial, Or.inr trivial, Or.inr trivial, trivial⟩, rfl, rfl, rfl, Nat.le_of_ble_eq_true rfl⟩ rfl zC1 rfl rfl dX1_cool_2 (fun r_2 w_2 hp => ?_) (fun _ _ h => h.elim)
  obtain ⟨rfl, rfl⟩ := hp
  refine z_weq (w' := zPl (pR _) _ :: _) (congrArg (fun z => z :: _) (zrnP rfl)) ?_
  refine z_weq (w' := [zPl _ _, zO _ [zr _ _, zr _ _, zr _ _, zr _ _, zr _ _, zi _, zi _, zr _ _, zr _ _], zH, zH, zH, zH, zH, zH, zH, zH, zH, zH, zH, zH, zH, zH, zH, zH, zH, zH, zH, zH]) rfl ?_
  refine z_seq (S' := zr _ _ :: _) rfl ?_
  refine z_astore F dX1_cool_5 (Nat.le_of_ble_eq_true rfl) ?_
  refine z_leq (L' := [_, _, _, _, _, _, _, _, _, _, _, _, _, _, _, _]) rfl ?_
  refine z_iload_n F dX1_cool_7 rfl ?_
  refine z_iconst F (nI 0) dX1_cool_8 rfl ?_
  refine z_sipush F (nI 500) dX1_cool_9 rfl ?_
  refine z_callS F (c_in x (nI 0) (nI 500)) 3 rfl (lw_S q349 q350 q109 q351) (by decide +kernel) ⟨Nat.le_of_ble_eq_true rfl, Nat.le_of_ble_eq_true rfl⟩ ⟨by omega, by omega⟩ [0] 22 ⟨rfl, rfl, rfl, ⟨Or.inl rfl, trivial⟩⟩ (fun h => nomatch h) (Nat.le_of_ble_eq_true rfl) ⟨⟨Or.inr (by first | exact ⟨rfl, pR_B _ (by decide)⟩ | exact ⟨rfl, uR_B (by decide) (by decide)⟩), Or.inr rfl, Or.inr trivial, Or.inr trivial, Or.inr trivial, Or.inr trivial, Or.inr trivial, Or.inr trivial, Or.inr trivial, Or.inr trivial, Or.inr trivial, Or.inr trivial, Or.inr trivial, Or.inr trivial, Or.inr trivial, Or.inr trivial, Or.inr trivial, Or.inr trivial, Or.inr trivial, Or.inr trivial, Or.inr trivial, Or.inr trivial, trivial⟩, rfl, rfl, rfl, Nat.le_of_ble_eq_true rfl⟩ rfl rfl dX1_cool_12 (fun r_12 w_12 hp => ?_) (fun _ _ h => h.elim)
  obtain ⟨rfl, rfl⟩ := hp
  refine z_weq (w' := [zPl _ _, zO _ [zr _ _, zr _ _, zr _ _, zr _ _, zr _ _, zi _, zi _, zr _ _, zr _ _], zH, zH, zH, zH, zH, zH, zH, zH, zH, zH, zH, zH, zH, zH, zH, zH, zH, zH, zH, zH]) rfl ?_
  refine z_seq (S' := zi _ :: _) rfl ?_
  refine z_if_eqB F (tgt := 34) dX1_cool_15 (by decide) (fun c_15 => ?_) (fun c_15 => ?_)
  · refine z_iconstB F false dX1_cool_34 rfl ?_
    refine z_callS F (c_rgt false) 1 rfl (lw_S q538 q539 q109 q540) (by decide +kernel) ⟨Nat.le_of_ble_eq_true rfl, Nat.le_of_ble_eq_true rfl⟩ ⟨by omega, by omega⟩ [0] 22 ⟨rfl, rfl, rfl, ⟨Or.inl rfl, trivial⟩⟩ (fun h => nomatch h) (Nat.le_of_ble_eq_true rfl) ⟨⟨Or.inr (by first | exact ⟨rfl, pR_B _ (by decide)⟩ | exact ⟨rfl, uR_B (by decide) (by decide)⟩), Or.inr rfl, Or.inr trivial, Or.inr trivial, Or.inr trivial, Or.inr trivial, Or.inr trivial, Or.inr trivial, Or.inr trivial, Or.inr trivial, Or.inr trivial, Or.inr trivial, Or.inr trivial, Or.inr trivial, Or.inr trivial, Or.inr trivial, Or.inr trivial, Or.inr trivial, Or.inr trivial, Or.inr trivial, Or.inr trivial, Or.inr trivial, trivial⟩, rfl, rfl, rfl, Nat.le_of_ble_eq_true rfl⟩ rfl rfl dX1_cool_35 (fun r_35 w_35 hp => ?_) (fun E_ w_ hx => by obtain ⟨rfl, -, rfl⟩ := hx; exact zx_out F E hno (by omega) (by omega) ⟨rfl, trivial, rfl⟩)
    exact nomatch hp.2.1
  · refine z_iload F dX1_cool_18 rfl ?_
    refine z_iconst F (nI 0) dX1_cool_20 rfl ?_
    refine z_sipush F (nI 10000) dX1_cool_21 rfl ?_
    refine z_callS F (c_in y (nI 0) (nI 10000)) 3 rfl (lw_S q349 q350 q109 q351) (by decide +kernel) ⟨Nat.le_of_ble_eq_true rfl, Nat.le_of_ble_eq_true rfl⟩ ⟨by omega, by omega⟩ [0] 22 ⟨rfl, rfl, rfl, ⟨Or.inl rfl, trivial⟩⟩ (fun h => nomatch h) (Nat.le_of_ble_eq_true rfl) ⟨⟨Or.inr (by first | exact ⟨rfl, pR_B _ (by decide)⟩ | exact ⟨rfl, uR_B (by decide) (by decide)⟩), Or.inr rfl, Or.inr trivial, Or.inr trivial, Or.inr trivial, Or.inr trivial, Or.inr trivial, Or.inr trivial, Or.inr trivial, Or.inr trivial, Or.inr trivial, Or.inr trivial, Or.inr trivial, Or.inr trivial, Or.inr trivial, Or.inr trivial, Or.inr trivial, Or.inr trivial, Or.inr trivial, Or.inr trivial, Or.inr trivial, Or.inr trivial, trivial⟩, rfl, rfl, rfl, Nat.le_of_ble_eq_true rfl⟩ rfl rfl dX1_cool_24 (fun r_24 w_24 hp => ?_) (fun _ _ h => h.elim)
    obtain ⟨rfl, rfl⟩ := hp
    refine z_weq (w' := [zPl _ _, zO _ [zr _ _, zr _ _, zr _ _, zr _ _, zr _ _, zi _, zi _, zr _ _, zr _ _], zH, zH, zH, zH, zH, zH, zH, zH, zH, zH, zH, zH, zH, zH, zH, zH, zH, zH, zH, zH]) rfl ?_
    refine z_seq (S' := zi _ :: _) rfl ?_
    refine z_if_eqB F (tgt := 34) dX1_cool_27 (by decide) (fun c_27 => ?_) (fun c_27 => ?_)
    · refine z_iconstB F false dX1_cool_34 rfl ?_
      refine z_callS F (c_rgt false) 1 rfl (lw_S q538 q539 q109 q540) (by decide +kernel) ⟨Nat.le_of_ble_eq_true rfl, Nat.le_of_ble_eq_true rfl⟩ ⟨by omega, by omega⟩ [0] 22 ⟨rfl, rfl, rfl, ⟨Or.inl rfl, trivial⟩⟩ (fun h => nomatch h) (Nat.le_of_ble_eq_true rfl) ⟨⟨Or.inr (by first | exact ⟨rfl, pR_B _ (by decide)⟩ | exact ⟨rfl, uR_B (by decide) (by decide)⟩), Or.inr rfl, Or.inr trivial, Or.inr trivial, Or.inr trivial, Or.inr trivial, Or.inr trivial, Or.inr trivial, Or.inr trivial, Or.inr trivial, Or.inr trivial, Or.inr trivial, Or.inr trivial, Or.inr trivial, Or.inr trivial, Or.inr trivial, Or.inr trivial, Or.inr trivial, Or.inr trivial, Or.inr trivial, Or.inr trivial, Or.inr trivial, trivial⟩, rfl, rfl, rfl, Nat.le_of_ble_eq_true rfl⟩ rfl rfl dX1_cool_35 (fun r_35 w_35 hp => ?_) (fun E_ w_ hx => by obtain ⟨rfl, -, rfl⟩ := hx; exact zx_out F E hno (by omega) (by omega) ⟨rfl, trivial, rfl⟩)
      exact nomatch hp.2.1
    · rw [c_15, c_27] at hx; cases hx
end C58
