/-! bettered: the best change of two lines, as long as it betters -/
section C55
theorem cpr_le {n d : Nat} {f : Nat → Int32} (h : nok n d f) : cpr n f ≤ 1000000 := by
  rw [← mpr_eq h.n24 (fun a b ha hb => h.sym ha hb)]
  unfold mpr
  split
  · exact Nat.le_refl _
  · rename_i p hp
    have := mw_bd n (by have := h.n24; omega) _ hp
    have := h.n24
    omega
theorem bst_n1 {n : Nat} {f : Nat → Int32} {i j : Nat} {cr : Bool} {s : BS} (h : cok n f i j cr = false) : bst n f i j cr s = s := by unfold bst; rw [h]; rfl
theorem bst_n2 {n : Nat} {f : Nat → Int32} {i j : Nat} {cr : Bool} {s : BS} (h : s.1 ≤ cpr n (cgo n f i j cr)) : bst n f i j cr s = s := by
  unfold bst
  rw [decide_eq_false (show ¬ cpr n (cgo n f i j cr) < s.1 by omega), Bool.and_false]; rfl
theorem bst_y {n : Nat} {f : Nat → Int32} {i j : Nat} {cr : Bool} {s : BS} (h : cok n f i j cr = true) (h2 : cpr n (cgo n f i j cr) < s.1) : bst n f i j cr s = (cpr n (cgo n f i j cr), some (i, j, cr)) := by
  unfold bst
  rw [h, decide_eq_true h2]; rfl
def enc (o : Option (Nat × Nat × Bool)) : Int32 := match o with
  | none => -1
  | some q => nI ((128 * q.1 + q.2.1) * 2 + (if q.2.2 then 1 else 0))
def bnx (n : Nat) (f : Nat → Int32) : Nat → Int32 := match bres n f with
  | none => f
  | some q => cgo n f q.1 q.2.1 q.2.2
theorem c_rowM (n : Nat) (d : Int32) (f : Nat → Int32) (h : nsy n f) (h97 : (prs n f).length ≤ 100) : zCtr yX5_row cX5_row 2 (some (.array .int)) 3 1 (prs n f).length [zr 1 0] [zH, eNet 2 (nI n) d, zAi 0 24 f] (fun r w => r = some (zr 3 0) ∧ w = [zH, eNet 2 (nI n) d, zAi 0 24 f, zAi 0 (prs n f).length (rowA (prs n f) (fun _ => 0))]) zNx := by
  refine z_start (by decide) [some (zr 1 0), none] rfl (fun _ => Nat.le_of_ble_eq_true rfl) (fun _ => rfl) (fun X F E hno hin => ?_)
  have hn := h.1
  have hl := prs_len h
  refine z_aload_n F dX5_row_0 rfl ?_
  refine z_callV F (c_netCount n d f hn) 0 rfl (lw_V q783 q766 q767 q116 q768) (by decide +kernel) ⟨Nat.le_of_ble_eq_true rfl, Nat.le_of_ble_eq_true rfl⟩ ⟨by omega, by omega⟩ [0, 1, 2] 3 ⟨rfl, rfl, rfl, ⟨Or.inl rfl, Or.inr rfl, Or.inr rfl, trivial⟩⟩ (fun h => nomatch h) (Nat.le_of_ble_eq_true rfl) ⟨⟨Or.inr trivial, Or.inl rfl, Or.inl rfl, trivial⟩, rfl, rfl, rfl, Nat.le_of_ble_eq_true rfl⟩ rfl zC5 rfl rfl dX5_row_1 (fun r_1 w_1 hp => ?_) (fun _ _ h => h.elim)
  obtain ⟨rfl, rfl⟩ := hp
  rw [hl, Nat.mul_div_cancel_left _ (by decide)]
  refine z_weq (w' := [zH, zO _ [zi _, zi _, zr _ _], zAi 0 24 _]) rfl ?_
  refine z_seq (S' := zi _ :: _) rfl ?_
  refine z_newaI F (prs n f).length 3 q174 (nI_pos (by omega)) (zcl_n (by omega)) (by omega) rfl (Nat.le_of_ble_eq_true rfl) ⟨trivial, rfl, trivial, trivial⟩ rfl rfl ⟨by omega, by omega⟩ dX5_row_4 ?_
  refine z_weq (w' := [_, _, _, _]) rfl ?_
  refine z_astore_n F dX5_row_6 (Nat.le_of_ble_eq_true rfl) ?_
  refine z_leq (L' := [_, _]) rfl ?_
  refine z_aload_n F dX5_row_7 rfl ?_
  refine z_aload_n F dX5_row_8 rfl ?_
  refine z_callV F (c_tellRow n d f (fun _ => 0) (prs n f).length hn (Nat.le_refl _) (by omega)) 1 rfl (lw_V q784 q785 q786 q116 q787) (by decide +kernel) ⟨Nat.le_of_ble_eq_true rfl, Nat.le_of_ble_eq_true rfl⟩ ⟨by omega, by omega⟩ [0, 1, 2, 3] 4 ⟨rfl, rfl, rfl, ⟨Or.inl rfl, Or.inr rfl, Or.inr rfl, Or.inr rfl, trivial⟩⟩ (fun h => nomatch h) (Nat.le_of_ble_eq_true rfl) ⟨⟨Or.inr trivial, Or.inl rfl, Or.inl rfl, Or.inl rfl, trivial⟩, rfl, rfl, rfl, Nat.le_of_ble_eq_true rfl⟩ rfl zC5 rfl rfl dX5_row_9 (fun r_9 w_9 hp => ?_) (fun _ _ h => h.elim)
  obtain ⟨rfl, rfl⟩ := hp
  refine z_weq (w' := [zH, zO _ [zi _, zi _, zr _ _], zAi 0 24 _, zAi 0 (prs n f).length _]) rfl ?_
  refine z_seq (S' := []) rfl ?_
  refine z_aload_n F dX5_row_12 rfl ?_
  exact z_aret F E rfl (Or.inr ⟨_, rfl⟩) dX5_row_13 (by omega) (by omega) (⟨rfl, rfl⟩)
abbrev xB (t : Nat) (fp sn g sm : Int32) (D : Nat → Int32) (n d : Nat) (f : Nat → Int32) : List zE := [zH, xO t fp, zH, eFl 4 sn g sm, zAi 0 24 D, zH, zH, zH, zH, zH, zH, zH, zH, zH, zH, zH, zH, zH, zH, zH, zH, zH, zO 5 [zi (nI n), zi (nI d), zr 23 0], zAi 0 24 f]
abbrev xBR (t : Nat) (fp sn g sm : Int32) (D : Nat → Int32) (n d : Nat) (f : Nat → Int32) (N : Nat) (r : Nat → Int32) : List zE := [zH, xO t fp, zH, eFl 4 sn g sm, zAi 0 24 D, zH, zH, zH, zH, zH, zH, zH, zH, zH, zH, zH, zH, zH, zH, zH, zH, zH, zO 5 [zi (nI n), zi (nI d), zr 23 0], zAi 0 24 f, zAi 0 N r]
theorem c_xbetters (t : Nat) (fp sn0 g0 sm0 : Int32) (D : Nat → Int32) (n d : Nat) (f : Nat → Int32) (h : nok n d f) :
    zCtr yX1_betters cX1_betters 9 (some .boolean) 4 1 (prs n f).length [zr 1 0, zr 22 0] (xB t fp sn0 g0 sm0 D n d f) (fun r w => r = some (zi (bI (bres n f).isSome)) ∧ ∃ sn g sm D R, w = xBR t fp sn g sm D n d (bnx n f) (prs n f).length R) zNx := by
  refine z_start (by decide) [some (zr 1 0), some (zr 22 0), none, none, none, none, none, none, none] rfl (fun _ => Nat.le_of_ble_eq_true rfl) (fun _ => rfl) (fun X F E hno hin => ?_)
  have h24 := h.n24
  have h96 := prs_96 h
  have hcp := cpr_le h
  have J : ∀ (sn g sm : Int32) (D : Nat → Int32), Z X [some (zr 1 0), some (zr 22 0), some (zr 24 0), none, some (zi (enc (bres n f))), none, none, none, none] [] (xBR t fp sn g sm D n d f (prs n f).length (rowA (prs n f) (fun _ => 0))) 1 (prs n f).length 157 := by
    intro sn g sm D
    rcases hq : bres n f with _ | q
    · have hb : bnx n f = f := by unfold bnx; rw [hq]
      refine z_iload F dX1_betters_157 rfl ?_
      refine z_iconst F (-1) dX1_betters_159 rfl ?_
      refine z_icmp_eq F (tgt := 205) dX1_betters_160 (by decide) (fun c_160 => ?_) (fun c_160 => ?_)
      · refine z_iconstB F false dX1_betters_205 rfl ?_
        exact z_zret F E rfl rfl dX1_betters_206 (by omega) (by omega) (⟨by rw [hq]; rfl, sn, g, sm, D, _, by rw [hb]⟩)
      · exact absurd rfl c_160
    · obtain ⟨i, j, cr⟩ := q
      obtain ⟨q1, q2, q3, q4⟩ := bres_in hq
      simp only at q1 q2 q3 q4
      have hb : bnx n f = cgo n f i j cr := by unfold bnx; rw [hq]
      obtain ⟨b, hb1, hb2, hb3⟩ : ∃ b : Nat, b ≤ 1 ∧ (if cr then 1 else 0) = b ∧ (b = 1 ↔ cr = true) := by
        cases cr
        · exact ⟨0, by omega, rfl, by simp⟩
        · exact ⟨1, by omega, rfl, by simp⟩
      refine z_leq (L' := [some (zr 1 0), some (zr 22 0), some (zr 24 0), none, some (zi (nI ((128 * i + j) * 2 + b))), none, none, none, none]) (by rw [← hb2]; rfl) ?_
      refine z_iload F dX1_betters_157 rfl ?_
      refine z_iconst F (-1) dX1_betters_159 rfl ?_
      refine z_icmp_eq F (tgt := 205) dX1_betters_160 (by decide) (fun c_160 => ?_) (fun c_160 => ?_)
      · exact absurd c_160 (nI_ne (by omega))
      · refine z_aload_n F dX1_betters_163 rfl ?_
        refine z_aload_n F dX1_betters_164 rfl ?_
        refine z_iload F dX1_betters_165 rfl ?_
        refine z_sipush F (nI 256) dX1_betters_167 rfl ?_
        refine z_idivN F (by omega) (by omega) (by omega) dX1_betters_170 ?_
        refine z_ieq (congrArg nI (show ((128 * i + j) * 2 + b) / 256 = i by omega)) ?_
        refine z_ialdN F rfl (by omega) (by omega) rfl dX1_betters_171 ?_
        refine z_ieq (rw1 (by omega)) ?_
        refine z_aload_n F dX1_betters_172 rfl ?_
        refine z_iload F dX1_betters_173 rfl ?_
        refine z_iconst F (nI 2) dX1_betters_175 rfl ?_
        refine z_idivN F (by omega) (by omega) (by omega) dX1_betters_176 ?_
        refine z_sipush F (nI 128) dX1_betters_177 rfl ?_
        refine z_iremN F (by omega) (by omega) (by omega) dX1_betters_180 ?_
        refine z_ieq (congrArg nI (show ((128 * i + j) * 2 + b) / 2 % 128 = j by omega)) ?_
        refine z_ialdN F rfl (by omega) (by omega) rfl dX1_betters_181 ?_
        refine z_ieq (rw1 q2) ?_
        refine z_iload F dX1_betters_182 rfl ?_
        refine z_iconst F (nI 2) dX1_betters_184 rfl ?_
        refine z_iremN F (by omega) (by omega) (by omega) dX1_betters_185 ?_
        refine z_iconst F (nI 1) dX1_betters_186 rfl ?_
        refine z_icmp_neN F (by omega) (by omega) (tgt := 194) dX1_betters_187 (by decide) (fun c_187 => ?_) (fun c_187 => ?_)
        · have hcr : cr = false := by
            cases cr
            · rfl
            · have := hb3.mpr rfl; omega
          subst hcr
          refine z_iconstB F false dX1_betters_194 rfl ?_
          refine z_callS F (c_xchg n d f i j false h (by omega) q2) 4 rfl (lw_S q922 q923 q109 q924) (by decide +kernel) ⟨Nat.le_of_ble_eq_true rfl, Nat.le_of_ble_eq_true rfl⟩ ⟨by omega, by omega⟩ [0, 22, 23] 25 ⟨rfl, rfl, rfl, ⟨Or.inl rfl, Or.inr rfl, Or.inr rfl, trivial⟩⟩ (fun h => nomatch h) (Nat.le_of_ble_eq_true rfl) ⟨⟨Or.inr trivial, Or.inr rfl, Or.inr trivial, Or.inr rfl, Or.inr trivial, Or.inr trivial, Or.inr trivial, Or.inr trivial, Or.inr trivial, Or.inr trivial, Or.inr trivial, Or.inr trivial, Or.inr trivial, Or.inr trivial, Or.inr trivial, Or.inr trivial, Or.inr trivial, Or.inr trivial, Or.inr trivial, Or.inr trivial, Or.inr trivial, Or.inr trivial, Or.inl rfl, Or.inl rfl, Or.inr trivial, trivial⟩, rfl, rfl, rfl, Nat.le_of_ble_eq_true rfl⟩ rfl rfl dX1_betters_195 (fun r_195 w_195 hp => ?_) (fun _ _ h => h.elim)
          obtain ⟨rfl, rfl⟩ := hp
          rw [q3]
          refine z_weq (w' := [zH, zO _ [zr _ _, zr _ _, zr _ _, zr _ _, zr _ _, zi _, zi _, zr _ _, zr _ _], zH, zO _ [zr _ _, zi _, zi _, zi _], zAi 0 24 _, zH, zH, zH, zH, zH, zH, zH, zH, zH, zH, zH, zH, zH, zH, zH, zH, zH, zO _ [zi _, zi _, zr _ _], zAi 0 24 _, zAi 0 (prs n f).length _]) rfl ?_
          refine z_seq (S' := zi _ :: _) rfl ?_
          refine z_if_eqB F (tgt := 205) dX1_betters_198 (by decide) (fun c_198 => ?_) (fun c_198 => ?_)
          · cases c_198
          · refine z_iconstB F true dX1_betters_201 rfl ?_
            refine z_goto F (tgt := 206) dX1_betters_202 (by decide) ?_
            exact z_zret F E rfl rfl dX1_betters_206 (by omega) (by omega) (⟨by rw [hq]; rfl, sn, g, sm, D, _, by rw [hb]; rfl⟩)
        · have hcr : cr = true := hb3.mp (by omega)
          subst hcr
          refine z_iconstB F true dX1_betters_190 rfl ?_
          refine z_goto F (tgt := 195) dX1_betters_191 (by decide) ?_
          refine z_callS F (c_xchg n d f i j true h (by omega) q2) 4 rfl (lw_S q922 q923 q109 q924) (by decide +kernel) ⟨Nat.le_of_ble_eq_true rfl, Nat.le_of_ble_eq_true rfl⟩ ⟨by omega, by omega⟩ [0, 22, 23] 25 ⟨rfl, rfl, rfl, ⟨Or.inl rfl, Or.inr rfl, Or.inr rfl, trivial⟩⟩ (fun h => nomatch h) (Nat.le_of_ble_eq_true rfl) ⟨⟨Or.inr trivial, Or.inr rfl, Or.inr trivial, Or.inr rfl, Or.inr trivial, Or.inr trivial, Or.inr trivial, Or.inr trivial, Or.inr trivial, Or.inr trivial, Or.inr trivial, Or.inr trivial, Or.inr trivial, Or.inr trivial, Or.inr trivial, Or.inr trivial, Or.inr trivial, Or.inr trivial, Or.inr trivial, Or.inr trivial, Or.inr trivial, Or.inr trivial, Or.inl rfl, Or.inl rfl, Or.inr trivial, trivial⟩, rfl, rfl, rfl, Nat.le_of_ble_eq_true rfl⟩ rfl rfl dX1_betters_195 (fun r_195 w_195 hp => ?_) (fun _ _ h => h.elim)
          obtain ⟨rfl, rfl⟩ := hp
          rw [q3]
          refine z_weq (w' := [zH, zO _ [zr _ _, zr _ _, zr _ _, zr _ _, zr _ _, zi _, zi _, zr _ _, zr _ _], zH, zO _ [zr _ _, zi _, zi _, zi _], zAi 0 24 _, zH, zH, zH, zH, zH, zH, zH, zH, zH, zH, zH, zH, zH, zH, zH, zH, zH, zO _ [zi _, zi _, zr _ _], zAi 0 24 _, zAi 0 (prs n f).length _]) rfl ?_
          refine z_seq (S' := zi _ :: _) rfl ?_
          refine z_if_eqB F (tgt := 205) dX1_betters_198 (by decide) (fun c_198 => ?_) (fun c_198 => ?_)
          · cases c_198
          · refine z_iconstB F true dX1_betters_201 rfl ?_
            refine z_goto F (tgt := 206) dX1_betters_202 (by decide) ?_
            exact z_zret F E rfl rfl dX1_betters_206 (by omega) (by omega) (⟨by rw [hq]; rfl, sn, g, sm, D, _, by rw [hb]; rfl⟩)
  have l43 : ∀ (i j : Nat) (s : BS), i < j → j < (prs n f).length → bin n f s → (∀ sn g sm D, Z X [some (zr 1 0), some (zr 22 0), some (zr 24 0), some (zi (nI (bsc n f i j s 2).1)), some (zi (enc (bsc n f i j s 2).2)), some (zi (nI i)), some (zi (nI j)), none, none] [] (xBR t fp sn g sm D n d f (prs n f).length (rowA (prs n f) (fun _ => 0))) 1 (prs n f).length 145) →
      ∀ (m c : Nat) (sn g sm : Int32) (D : Nat → Int32), 2 - c < m → c ≤ 2 → Z X [some (zr 1 0), some (zr 22 0), some (zr 24 0), some (zi (nI (bsc n f i j s c).1)), some (zi (enc (bsc n f i j s c).2)), some (zi (nI i)), some (zi (nI j)), some (zi (nI c)), none] [] (xBR t fp sn g sm D n d f (prs n f).length (rowA (prs n f) (fun _ => 0))) 1 (prs n f).length 43 := by
    intro i j s hij hj hs kk m
    induction m with
    | zero => intro c sn g sm D hm; omega
    | succ m ih =>
      intro c sn g sm D hm hc
      have hsc := (bsc_in hij hj hs c).le
      have fin : ∀ (cr : Bool) (sn g sm : Int32) (D : Nat → Int32) (o : Option zV) (x : Nat) (y : Int32), c < 2 → cr = decide (c = 1) → x = (bst n f i j cr (bsc n f i j s c)).1 → y = enc (bst n f i j cr (bsc n f i j s c)).2 → Z X [some (zr 1 0), some (zr 22 0), some (zr 24 0), some (zi (nI x)), some (zi y), some (zi (nI i)), some (zi (nI j)), some (zi (nI (c + 1))), o] [] (xBR t fp sn g sm D n d f (prs n f).length (rowA (prs n f) (fun _ => 0))) 1 (prs n f).length 43 := by
        intro cr sn g sm D o x y hc2 hcr hx hy
        subst hx hy hcr
        refine z_loc _ ?_ (ih (c + 1) sn g sm D (by omega) (by omega))
        exact ⟨rfl, rfl, rfl, rfl, rfl, rfl, rfl, rfl, trivial⟩
      refine z_iload F dX1_betters_43 rfl ?_
      refine z_iconst F (nI 2) dX1_betters_45 rfl ?_
      refine z_icmp_geN F (by omega) (by omega) (tgt := 145) dX1_betters_46 (by decide) (fun c_46 => ?_) (fun c_46 => ?_)
      · have ec : c = 2 := by omega
        subst ec
        refine z_loc _ ?_ (kk sn g sm D)
        exact ⟨rfl, rfl, rfl, rfl, rfl, rfl, rfl, trivial⟩
      · refine z_aload_n F dX1_betters_49 rfl ?_
        refine z_aload_n F dX1_betters_50 rfl ?_
        refine z_iload F dX1_betters_51 rfl ?_
        refine z_ialdN F rfl (by omega) (by omega) rfl dX1_betters_53 ?_
        refine z_ieq (rw1 (by omega)) ?_
        refine z_aload_n F dX1_betters_54 rfl ?_
        refine z_iload F dX1_betters_55 rfl ?_
        refine z_ialdN F rfl (by omega) (by omega) rfl dX1_betters_57 ?_
        refine z_ieq (rw1 hj) ?_
        refine z_iload F dX1_betters_58 rfl ?_
        refine z_iconst F (nI 1) dX1_betters_60 rfl ?_
        refine z_icmp_neN F (by omega) (by omega) (tgt := 68) dX1_betters_61 (by decide) (fun c_61 => ?_) (fun c_61 => ?_)
        · refine z_iconstB F false dX1_betters_68 rfl ?_
          refine z_callS F (c_xchg n d f i j false h (by omega) hj) 4 rfl (lw_S q922 q923 q109 q924) (by decide +kernel) ⟨Nat.le_of_ble_eq_true rfl, Nat.le_of_ble_eq_true rfl⟩ ⟨by omega, by omega⟩ [0, 22, 23] 25 ⟨rfl, rfl, rfl, ⟨Or.inl rfl, Or.inr rfl, Or.inr rfl, trivial⟩⟩ (fun h => nomatch h) (Nat.le_of_ble_eq_true rfl) ⟨⟨Or.inr trivial, Or.inr rfl, Or.inr trivial, Or.inr rfl, Or.inr trivial, Or.inr trivial, Or.inr trivial, Or.inr trivial, Or.inr trivial, Or.inr trivial, Or.inr trivial, Or.inr trivial, Or.inr trivial, Or.inr trivial, Or.inr trivial, Or.inr trivial, Or.inr trivial, Or.inr trivial, Or.inr trivial, Or.inr trivial, Or.inr trivial, Or.inr trivial, Or.inl rfl, Or.inl rfl, Or.inr trivial, trivial⟩, rfl, rfl, rfl, Nat.le_of_ble_eq_true rfl⟩ rfl rfl dX1_betters_69 (fun r_69 w_69 hp => ?_) (fun _ _ h => h.elim)
          obtain ⟨rfl, rfl⟩ := hp
          refine z_weq (w' := [zH, zO _ [zr _ _, zr _ _, zr _ _, zr _ _, zr _ _, zi _, zi _, zr _ _, zr _ _], zH, zO _ [zr _ _, zi _, zi _, zi _], zAi 0 24 _, zH, zH, zH, zH, zH, zH, zH, zH, zH, zH, zH, zH, zH, zH, zH, zH, zH, zO _ [zi _, zi _, zr _ _], zAi 0 24 _, zAi 0 (prs n f).length _]) rfl ?_
          refine z_seq (S' := zi _ :: _) rfl ?_
          refine z_if_neB F (tgt := 78) dX1_betters_72 (by decide) (fun c_72 => ?_) (fun c_72 => ?_)
          · obtain ⟨g1, g2, g3⟩ := cgo_ok h (by omega) hj c_72
            have hcg := cpr_le g1
            rw [if_pos c_72]
            refine z_aload_n F dX1_betters_78 rfl ?_
            refine z_get F zC1 (f := 2) rfl (Nat.le_of_ble_eq_true rfl) q316 rfl dX1_betters_79 ?_
            refine z_aload_n F dX1_betters_82 rfl ?_
            refine z_callV F (c_price n (nI d) (cgo n f i j false) _ _ _ _ h24) 1 rfl (lw_V q862 q863 q864 q110 q865) (by decide +kernel) ⟨Nat.le_of_ble_eq_true rfl, Nat.le_of_ble_eq_true rfl⟩ ⟨by omega, by omega⟩ [0, 3, 4, 22, 23] 25 ⟨rfl, rfl, rfl, ⟨Or.inl rfl, Or.inr rfl, Or.inr rfl, Or.inr rfl, Or.inr rfl, trivial⟩⟩ (fun h => nomatch h) (Nat.le_of_ble_eq_true rfl) ⟨⟨Or.inr trivial, Or.inr rfl, Or.inr trivial, Or.inl rfl, Or.inl rfl, Or.inr trivial, Or.inr trivial, Or.inr trivial, Or.inr trivial, Or.inr trivial, Or.inr trivial, Or.inr trivial, Or.inr trivial, Or.inr trivial, Or.inr trivial, Or.inr trivial, Or.inr trivial, Or.inr trivial, Or.inr trivial, Or.inr trivial, Or.inr trivial, Or.inr trivial, Or.inl rfl, Or.inl rfl, Or.inr trivial, trivial⟩, rfl, rfl, rfl, Nat.le_of_ble_eq_true rfl⟩ rfl zC2 rfl rfl dX1_betters_83 (fun r_83 w_83 hp => ?_) (fun _ _ h => h.elim)
            obtain ⟨rfl, sn1, g1', sm1, D1, rfl⟩ := hp
            refine z_weq (w' := [zH, zO _ [zr _ _, zr _ _, zr _ _, zr _ _, zr _ _, zi _, zi _, zr _ _, zr _ _], zH, zO _ [zr _ _, zi _, zi _, zi _], zAi 0 24 _, zH, zH, zH, zH, zH, zH, zH, zH, zH, zH, zH, zH, zH, zH, zH, zH, zH, zO _ [zi _, zi _, zr _ _], zAi 0 24 _, zAi 0 (prs n f).length _]) rfl ?_
            refine z_seq (S' := zi _ :: _) rfl ?_
            refine z_istore F dX1_betters_86 (Nat.le_of_ble_eq_true rfl) ?_
            refine z_leq (L' := [_, _, _, _, _, _, _, _, _]) rfl ?_
            refine z_aload_n F dX1_betters_88 rfl ?_
            refine z_aload_n F dX1_betters_89 rfl ?_
            refine z_iload F dX1_betters_90 rfl ?_
            refine z_ialdN F rfl (by omega) (by omega) rfl dX1_betters_92 ?_
            refine z_ieq (rw1 (by omega)) ?_
            refine z_aload_n F dX1_betters_93 rfl ?_
            refine z_iload F dX1_betters_94 rfl ?_
            refine z_ialdN F rfl (by omega) (by omega) rfl dX1_betters_96 ?_
            refine z_ieq (rw1 hj) ?_
            refine z_iload F dX1_betters_97 rfl ?_
            refine z_iconst F (nI 1) dX1_betters_99 rfl ?_
            refine z_icmp_neN F (by omega) (by omega) (tgt := 107) dX1_betters_100 (by decide) (fun c_100 => ?_) (fun c_100 => ?_)
            · refine z_iconstB F false dX1_betters_107 rfl ?_
              refine z_callS F (c_xback n d f (cgo n f i j false) i j false h (by omega) hj) 4 rfl (lw_S q936 q937 q109 q938) (by decide +kernel) ⟨Nat.le_of_ble_eq_true rfl, Nat.le_of_ble_eq_true rfl⟩ ⟨by omega, by omega⟩ [0, 22, 23] 25 ⟨rfl, rfl, rfl, ⟨Or.inl rfl, Or.inr rfl, Or.inr rfl, trivial⟩⟩ (fun h => nomatch h) (Nat.le_of_ble_eq_true rfl) ⟨⟨Or.inr trivial, Or.inr rfl, Or.inr trivial, Or.inr rfl, Or.inr trivial, Or.inr trivial, Or.inr trivial, Or.inr trivial, Or.inr trivial, Or.inr trivial, Or.inr trivial, Or.inr trivial, Or.inr trivial, Or.inr trivial, Or.inr trivial, Or.inr trivial, Or.inr trivial, Or.inr trivial, Or.inr trivial, Or.inr trivial, Or.inr trivial, Or.inr trivial, Or.inl rfl, Or.inl rfl, Or.inr trivial, trivial⟩, rfl, rfl, rfl, Nat.le_of_ble_eq_true rfl⟩ rfl rfl dX1_betters_108 (fun r_108 w_108 hp => ?_) (fun _ _ h => h.elim)
              obtain ⟨rfl, rfl⟩ := hp
              rw [g3]
              refine z_weq (w' := [zH, zO _ [zr _ _, zr _ _, zr _ _, zr _ _, zr _ _, zi _, zi _, zr _ _, zr _ _], zH, zO _ [zr _ _, zi _, zi _, zi _], zAi 0 24 _, zH, zH, zH, zH, zH, zH, zH, zH, zH, zH, zH, zH, zH, zH, zH, zH, zH, zO _ [zi _, zi _, zr _ _], zAi 0 24 _, zAi 0 (prs n f).length _]) rfl ?_
              refine z_seq (S' := []) rfl ?_
              refine z_iload F dX1_betters_111 rfl ?_
              refine z_iload_n F dX1_betters_113 rfl ?_
              refine z_icmp_ltN F (by omega) (by omega) (tgt := 120) dX1_betters_114 (by decide) (fun c_114 => ?_) (fun c_114 => ?_)
              · refine z_iload F dX1_betters_120 rfl ?_
                refine z_istore_n F dX1_betters_122 (Nat.le_of_ble_eq_true rfl) ?_
                refine z_leq (L' := [_, _, _, _, _, _, _, _, _]) rfl ?_
                refine z_sipush F (nI 128) dX1_betters_123 rfl ?_
                refine z_iload F dX1_betters_126 rfl ?_
                refine z_imulN F dX1_betters_128 ?_
                refine z_iload F dX1_betters_129 rfl ?_
                refine z_iaddN F dX1_betters_131 ?_
                refine z_iconst F (nI 2) dX1_betters_132 rfl ?_
                refine z_imulN F dX1_betters_133 ?_
                refine z_iload F dX1_betters_134 rfl ?_
                refine z_iaddN F dX1_betters_136 ?_
                refine z_istore F dX1_betters_137 (Nat.le_of_ble_eq_true rfl) ?_
                refine z_leq (L' := [_, _, _, _, _, _, _, _, _]) rfl ?_
                refine z_iincN F 1 dX1_betters_139 rfl rfl ?_
                refine z_leq (L' := [_, _, _, _, _, _, _, _, _]) rfl ?_
                refine z_goto F (tgt := 43) dX1_betters_142 (by decide) ?_
                first | exact fin false _ _ _ _ _ _ _ (by omega) (decide_eq_false c_61).symm (by rw [bst_y c_72 c_114]) (by rw [bst_y c_72 c_114, show c = 0 by omega]; rfl) | exact fin true _ _ _ _ _ _ _ (by omega) (decide_eq_true c_61).symm (by rw [bst_y c_72 c_114]) (by rw [bst_y c_72 c_114, c_61]; rfl)
              · refine z_goto F (tgt := 139) dX1_betters_117 (by decide) ?_
                refine z_iincN F 1 dX1_betters_139 rfl rfl ?_
                refine z_leq (L' := [_, _, _, _, _, _, _, _, _]) rfl ?_
                refine z_goto F (tgt := 43) dX1_betters_142 (by decide) ?_
                first | exact fin false _ _ _ _ _ _ _ (by omega) (decide_eq_false c_61).symm (by rw [bst_n2 c_114]) (by rw [bst_n2 c_114]) | exact fin true _ _ _ _ _ _ _ (by omega) (decide_eq_true c_61).symm (by rw [bst_n2 c_114]) (by rw [bst_n2 c_114])
            · exact absurd c_100 c_61
          · rw [if_neg (by rw [c_72]; decide)]
            refine z_goto F (tgt := 139) dX1_betters_75 (by decide) ?_
            refine z_iincN F 1 dX1_betters_139 rfl rfl ?_
            refine z_leq (L' := [_, _, _, _, _, _, _, _, _]) rfl ?_
            refine z_goto F (tgt := 43) dX1_betters_142 (by decide) ?_
            first | exact fin false _ _ _ _ _ _ _ (by omega) (decide_eq_false c_61).symm (by rw [bst_n1 c_72]) (by rw [bst_n1 c_72]) | exact fin true _ _ _ _ _ _ _ (by omega) (decide_eq_true c_61).symm (by rw [bst_n1 c_72]) (by rw [bst_n1 c_72])
        · refine z_iconstB F true dX1_betters_64 rfl ?_
          refine z_goto F (tgt := 69) dX1_betters_65 (by decide) ?_
          refine z_callS F (c_xchg n d f i j true h (by omega) hj) 4 rfl (lw_S q922 q923 q109 q924) (by decide +kernel) ⟨Nat.le_of_ble_eq_true rfl, Nat.le_of_ble_eq_true rfl⟩ ⟨by omega, by omega⟩ [0, 22, 23] 25 ⟨rfl, rfl, rfl, ⟨Or.inl rfl, Or.inr rfl, Or.inr rfl, trivial⟩⟩ (fun h => nomatch h) (Nat.le_of_ble_eq_true rfl) ⟨⟨Or.inr trivial, Or.inr rfl, Or.inr trivial, Or.inr rfl, Or.inr trivial, Or.inr trivial, Or.inr trivial, Or.inr trivial, Or.inr trivial, Or.inr trivial, Or.inr trivial, Or.inr trivial, Or.inr trivial, Or.inr trivial, Or.inr trivial, Or.inr trivial, Or.inr trivial, Or.inr trivial, Or.inr trivial, Or.inr trivial, Or.inr trivial, Or.inr trivial, Or.inl rfl, Or.inl rfl, Or.inr trivial, trivial⟩, rfl, rfl, rfl, Nat.le_of_ble_eq_true rfl⟩ rfl rfl dX1_betters_69 (fun r_69 w_69 hp => ?_) (fun _ _ h => h.elim)
          obtain ⟨rfl, rfl⟩ := hp
          refine z_weq (w' := [zH, zO _ [zr _ _, zr _ _, zr _ _, zr _ _, zr _ _, zi _, zi _, zr _ _, zr _ _], zH, zO _ [zr _ _, zi _, zi _, zi _], zAi 0 24 _, zH, zH, zH, zH, zH, zH, zH, zH, zH, zH, zH, zH, zH, zH, zH, zH, zH, zO _ [zi _, zi _, zr _ _], zAi 0 24 _, zAi 0 (prs n f).length _]) rfl ?_
          refine z_seq (S' := zi _ :: _) rfl ?_
          refine z_if_neB F (tgt := 78) dX1_betters_72 (by decide) (fun c_72 => ?_) (fun c_72 => ?_)
          · obtain ⟨g1, g2, g3⟩ := cgo_ok h (by omega) hj c_72
            have hcg := cpr_le g1
            rw [if_pos c_72]
            refine z_aload_n F dX1_betters_78 rfl ?_
            refine z_get F zC1 (f := 2) rfl (Nat.le_of_ble_eq_true rfl) q316 rfl dX1_betters_79 ?_
            refine z_aload_n F dX1_betters_82 rfl ?_
            refine z_callV F (c_price n (nI d) (cgo n f i j true) _ _ _ _ h24) 1 rfl (lw_V q862 q863 q864 q110 q865) (by decide +kernel) ⟨Nat.le_of_ble_eq_true rfl, Nat.le_of_ble_eq_true rfl⟩ ⟨by omega, by omega⟩ [0, 3, 4, 22, 23] 25 ⟨rfl, rfl, rfl, ⟨Or.inl rfl, Or.inr rfl, Or.inr rfl, Or.inr rfl, Or.inr rfl, trivial⟩⟩ (fun h => nomatch h) (Nat.le_of_ble_eq_true rfl) ⟨⟨Or.inr trivial, Or.inr rfl, Or.inr trivial, Or.inl rfl, Or.inl rfl, Or.inr trivial, Or.inr trivial, Or.inr trivial, Or.inr trivial, Or.inr trivial, Or.inr trivial, Or.inr trivial, Or.inr trivial, Or.inr trivial, Or.inr trivial, Or.inr trivial, Or.inr trivial, Or.inr trivial, Or.inr trivial, Or.inr trivial, Or.inr trivial, Or.inr trivial, Or.inl rfl, Or.inl rfl, Or.inr trivial, trivial⟩, rfl, rfl, rfl, Nat.le_of_ble_eq_true rfl⟩ rfl zC2 rfl rfl dX1_betters_83 (fun r_83 w_83 hp => ?_) (fun _ _ h => h.elim)
            obtain ⟨rfl, sn1, g1', sm1, D1, rfl⟩ := hp
            refine z_weq (w' := [zH, zO _ [zr _ _, zr _ _, zr _ _, zr _ _, zr _ _, zi _, zi _, zr _ _, zr _ _], zH, zO _ [zr _ _, zi _, zi _, zi _], zAi 0 24 _, zH, zH, zH, zH, zH, zH, zH, zH, zH, zH, zH, zH, zH, zH, zH, zH, zH, zO _ [zi _, zi _, zr _ _], zAi 0 24 _, zAi 0 (prs n f).length _]) rfl ?_
            refine z_seq (S' := zi _ :: _) rfl ?_
            refine z_istore F dX1_betters_86 (Nat.le_of_ble_eq_true rfl) ?_
            refine z_leq (L' := [_, _, _, _, _, _, _, _, _]) rfl ?_
            refine z_aload_n F dX1_betters_88 rfl ?_
            refine z_aload_n F dX1_betters_89 rfl ?_
            refine z_iload F dX1_betters_90 rfl ?_
            refine z_ialdN F rfl (by omega) (by omega) rfl dX1_betters_92 ?_
            refine z_ieq (rw1 (by omega)) ?_
            refine z_aload_n F dX1_betters_93 rfl ?_
            refine z_iload F dX1_betters_94 rfl ?_
            refine z_ialdN F rfl (by omega) (by omega) rfl dX1_betters_96 ?_
            refine z_ieq (rw1 hj) ?_
            refine z_iload F dX1_betters_97 rfl ?_
            refine z_iconst F (nI 1) dX1_betters_99 rfl ?_
            refine z_icmp_neN F (by omega) (by omega) (tgt := 107) dX1_betters_100 (by decide) (fun c_100 => ?_) (fun c_100 => ?_)
            · exact absurd c_61 c_100
            · refine z_iconstB F true dX1_betters_103 rfl ?_
              refine z_goto F (tgt := 108) dX1_betters_104 (by decide) ?_
              refine z_callS F (c_xback n d f (cgo n f i j true) i j true h (by omega) hj) 4 rfl (lw_S q936 q937 q109 q938) (by decide +kernel) ⟨Nat.le_of_ble_eq_true rfl, Nat.le_of_ble_eq_true rfl⟩ ⟨by omega, by omega⟩ [0, 22, 23] 25 ⟨rfl, rfl, rfl, ⟨Or.inl rfl, Or.inr rfl, Or.inr rfl, trivial⟩⟩ (fun h => nomatch h) (Nat.le_of_ble_eq_true rfl) ⟨⟨Or.inr trivial, Or.inr rfl, Or.inr trivial, Or.inr rfl, Or.inr trivial, Or.inr trivial, Or.inr trivial, Or.inr trivial, Or.inr trivial, Or.inr trivial, Or.inr trivial, Or.inr trivial, Or.inr trivial, Or.inr trivial, Or.inr trivial, Or.inr trivial, Or.inr trivial, Or.inr trivial, Or.inr trivial, Or.inr trivial, Or.inr trivial, Or.inr trivial, Or.inl rfl, Or.inl rfl, Or.inr trivial, trivial⟩, rfl, rfl, rfl, Nat.le_of_ble_eq_true rfl⟩ rfl rfl dX1_betters_108 (fun r_108 w_108 hp => ?_) (fun _ _ h => h.elim)
              obtain ⟨rfl, rfl⟩ := hp
              rw [g3]
              refine z_weq (w' := [zH, zO _ [zr _ _, zr _ _, zr _ _, zr _ _, zr _ _, zi _, zi _, zr _ _, zr _ _], zH, zO _ [zr _ _, zi _, zi _, zi _], zAi 0 24 _, zH, zH, zH, zH, zH, zH, zH, zH, zH, zH, zH, zH, zH, zH, zH, zH, zH, zO _ [zi _, zi _, zr _ _], zAi 0 24 _, zAi 0 (prs n f).length _]) rfl ?_
              refine z_seq (S' := []) rfl ?_
              refine z_iload F dX1_betters_111 rfl ?_
              refine z_iload_n F dX1_betters_113 rfl ?_
              refine z_icmp_ltN F (by omega) (by omega) (tgt := 120) dX1_betters_114 (by decide) (fun c_114 => ?_) (fun c_114 => ?_)
              · refine z_iload F dX1_betters_120 rfl ?_
                refine z_istore_n F dX1_betters_122 (Nat.le_of_ble_eq_true rfl) ?_
                refine z_leq (L' := [_, _, _, _, _, _, _, _, _]) rfl ?_
                refine z_sipush F (nI 128) dX1_betters_123 rfl ?_
                refine z_iload F dX1_betters_126 rfl ?_
                refine z_imulN F dX1_betters_128 ?_
                refine z_iload F dX1_betters_129 rfl ?_
                refine z_iaddN F dX1_betters_131 ?_
                refine z_iconst F (nI 2) dX1_betters_132 rfl ?_
                refine z_imulN F dX1_betters_133 ?_
                refine z_iload F dX1_betters_134 rfl ?_
                refine z_iaddN F dX1_betters_136 ?_
                refine z_istore F dX1_betters_137 (Nat.le_of_ble_eq_true rfl) ?_
                refine z_leq (L' := [_, _, _, _, _, _, _, _, _]) rfl ?_
                refine z_iincN F 1 dX1_betters_139 rfl rfl ?_
                refine z_leq (L' := [_, _, _, _, _, _, _, _, _]) rfl ?_
                refine z_goto F (tgt := 43) dX1_betters_142 (by decide) ?_
                first | exact fin false _ _ _ _ _ _ _ (by omega) (decide_eq_false c_61).symm (by rw [bst_y c_72 c_114]) (by rw [bst_y c_72 c_114, show c = 0 by omega]; rfl) | exact fin true _ _ _ _ _ _ _ (by omega) (decide_eq_true c_61).symm (by rw [bst_y c_72 c_114]) (by rw [bst_y c_72 c_114, c_61]; rfl)
              · refine z_goto F (tgt := 139) dX1_betters_117 (by decide) ?_
                refine z_iincN F 1 dX1_betters_139 rfl rfl ?_
                refine z_leq (L' := [_, _, _, _, _, _, _, _, _]) rfl ?_
                refine z_goto F (tgt := 43) dX1_betters_142 (by decide) ?_
                first | exact fin false _ _ _ _ _ _ _ (by omega) (decide_eq_false c_61).symm (by rw [bst_n2 c_114]) (by rw [bst_n2 c_114]) | exact fin true _ _ _ _ _ _ _ (by omega) (decide_eq_true c_61).symm (by rw [bst_n2 c_114]) (by rw [bst_n2 c_114])
          · rw [if_neg (by rw [c_72]; decide)]
            refine z_goto F (tgt := 139) dX1_betters_75 (by decide) ?_
            refine z_iincN F 1 dX1_betters_139 rfl rfl ?_
            refine z_leq (L' := [_, _, _, _, _, _, _, _, _]) rfl ?_
            refine z_goto F (tgt := 43) dX1_betters_142 (by decide) ?_
            first | exact fin false _ _ _ _ _ _ _ (by omega) (decide_eq_false c_61).symm (by rw [bst_n1 c_72]) (by rw [bst_n1 c_72]) | exact fin true _ _ _ _ _ _ _ (by omega) (decide_eq_true c_61).symm (by rw [bst_n1 c_72]) (by rw [bst_n1 c_72])
  have l33 : ∀ (i : Nat) (s : BS), i < (prs n f).length → bin n f s → (∀ sn g sm D, Z X [some (zr 1 0), some (zr 22 0), some (zr 24 0), some (zi (nI (btj n f i s (prs n f).length).1)), some (zi (enc (btj n f i s (prs n f).length).2)), some (zi (nI i)), none, none, none] [] (xBR t fp sn g sm D n d f (prs n f).length (rowA (prs n f) (fun _ => 0))) 1 (prs n f).length 151) →
      ∀ (m j : Nat) (sn g sm : Int32) (D : Nat → Int32), (prs n f).length + 1 - j < m → i < j → j ≤ (prs n f).length → Z X [some (zr 1 0), some (zr 22 0), some (zr 24 0), some (zi (nI (btj n f i s j).1)), some (zi (enc (btj n f i s j).2)), some (zi (nI i)), some (zi (nI j)), none, none] [] (xBR t fp sn g sm D n d f (prs n f).length (rowA (prs n f) (fun _ => 0))) 1 (prs n f).length 33 := by
    intro i s hi hs kk m
    induction m with
    | zero => intro j sn g sm D hm; omega
    | succ m ih =>
      intro j sn g sm D hm hij hj
      have hb := btj_in (i := i) hs j hj
      have hsc := hb.le
      have back : ∀ (sn g sm : Int32) (D : Nat → Int32), j < (prs n f).length → Z X [some (zr 1 0), some (zr 22 0), some (zr 24 0), some (zi (nI (bsc n f i j (btj n f i s j) 2).1)), some (zi (enc (bsc n f i j (btj n f i s j) 2).2)), some (zi (nI i)), some (zi (nI j)), none, none] [] (xBR t fp sn g sm D n d f (prs n f).length (rowA (prs n f) (fun _ => 0))) 1 (prs n f).length 145 := by
        intro sn g sm D hj2
        have e : btj n f i s (j + 1) = bsc n f i j (btj n f i s j) 2 := by rw [btj, if_pos hij]
        refine z_iincN F 1 dX1_betters_145 rfl rfl ?_
        refine z_leq (L' := [_, _, _, _, _, _, _, _, _]) rfl ?_
        refine z_goto F (tgt := 33) dX1_betters_148 (by decide) ?_
        have hh := ih (j + 1) sn g sm D (by omega) (by omega) (by omega)
        rw [e] at hh
        exact hh
      refine z_iload F dX1_betters_33 rfl ?_
      refine z_aload_n F dX1_betters_35 rfl ?_
      refine z_alenN F (fun _ => rfl) rfl dX1_betters_36 ?_
      refine z_icmp_geN F (by omega) (by omega) (tgt := 151) dX1_betters_37 (by decide) (fun c_37 => ?_) (fun c_37 => ?_)
      · have ej : j = (prs n f).length := by omega
        rw [ej]
        refine z_loc _ ?_ (kk sn g sm D)
        exact ⟨rfl, rfl, rfl, rfl, rfl, rfl, trivial⟩
      · refine z_iconst F (nI 0) dX1_betters_40 rfl ?_
        refine z_istore F dX1_betters_41 (Nat.le_of_ble_eq_true rfl) ?_
        refine z_leq (L' := [_, _, _, _, _, _, _, _, _]) rfl ?_
        exact l43 i j (btj n f i s j) hij (by omega) hb (fun sn g sm D => back sn g sm D (by omega)) _ 0 sn g sm D (Nat.lt_succ_self _) (by omega)
  have l20 : ∀ (m i : Nat) (sn g sm : Int32) (D : Nat → Int32), (prs n f).length - i < m → i ≤ (prs n f).length → Z X [some (zr 1 0), some (zr 22 0), some (zr 24 0), some (zi (nI (bti n f i).1)), some (zi (enc (bti n f i).2)), some (zi (nI i)), none, none, none] [] (xBR t fp sn g sm D n d f (prs n f).length (rowA (prs n f) (fun _ => 0))) 1 (prs n f).length 20 := by
    intro m
    induction m with
    | zero => intro i sn g sm D hm; omega
    | succ m ih =>
      intro i sn g sm D hm hi
      have hb := bti_in (n := n) (f := f) i
      have hsc := hb.le
      have back : ∀ (sn g sm : Int32) (D : Nat → Int32), i < (prs n f).length → Z X [some (zr 1 0), some (zr 22 0), some (zr 24 0), some (zi (nI (btj n f i (bti n f i) (prs n f).length).1)), some (zi (enc (btj n f i (bti n f i) (prs n f).length).2)), some (zi (nI i)), none, none, none] [] (xBR t fp sn g sm D n d f (prs n f).length (rowA (prs n f) (fun _ => 0))) 1 (prs n f).length 151 := by
        intro sn g sm D hi2
        refine z_iincN F 1 dX1_betters_151 rfl rfl ?_
        refine z_leq (L' := [_, _, _, _, _, _, _, _, _]) rfl ?_
        refine z_goto F (tgt := 20) dX1_betters_154 (by decide) ?_
        exact ih (i + 1) sn g sm D (by omega) (by omega)
      refine z_iload F dX1_betters_20 rfl ?_
      refine z_aload_n F dX1_betters_22 rfl ?_
      refine z_alenN F (fun _ => rfl) rfl dX1_betters_23 ?_
      refine z_icmp_geN F (by omega) (by omega) (tgt := 157) dX1_betters_24 (by decide) (fun c_24 => ?_) (fun c_24 => ?_)
      · have ei : i = (prs n f).length := by omega
        have hJ := J sn g sm D
        rw [ei]
        refine z_loc _ ?_ hJ
        exact ⟨rfl, rfl, rfl, rfl, trivial⟩
      · refine z_iload F dX1_betters_27 rfl ?_
        refine z_iconst F (nI 1) dX1_betters_29 rfl ?_
        refine z_iaddN F dX1_betters_30 ?_
        refine z_istore F dX1_betters_31 (Nat.le_of_ble_eq_true rfl) ?_
        refine z_leq (L' := [_, _, _, _, _, _, _, _, _]) rfl ?_
        have hh := l33 i (bti n f i) (by omega) hb (fun sn g sm D => back sn g sm D (by omega)) _ (i + 1) sn g sm D (Nat.lt_succ_self _) (by omega) (by omega)
        rw [btj_lo _ (Nat.le_refl _)] at hh
        exact hh
  refine z_aload_n F dX1_betters_0 rfl ?_
  refine z_callV F (c_rowM n (nI d) f h.sy (by omega)) 0 rfl (lw_V q779 q780 q781 q116 q782) (by decide +kernel) ⟨Nat.le_of_ble_eq_true rfl, Nat.le_of_ble_eq_true rfl⟩ ⟨by omega, by omega⟩ [0, 22, 23] 24 ⟨rfl, rfl, rfl, ⟨Or.inl rfl, Or.inr rfl, Or.inr rfl, trivial⟩⟩ (fun h => nomatch h) (Nat.le_of_ble_eq_true rfl) ⟨⟨Or.inr trivial, Or.inr rfl, Or.inr trivial, Or.inr rfl, Or.inr trivial, Or.inr trivial, Or.inr trivial, Or.inr trivial, Or.inr trivial, Or.inr trivial, Or.inr trivial, Or.inr trivial, Or.inr trivial, Or.inr trivial, Or.inr trivial, Or.inr trivial, Or.inr trivial, Or.inr trivial, Or.inr trivial, Or.inr trivial, Or.inr trivial, Or.inr trivial, Or.inl rfl, Or.inl rfl, trivial⟩, rfl, rfl, rfl, Nat.le_of_ble_eq_true rfl⟩ rfl zC5 rfl rfl dX1_betters_1 (fun r_1 w_1 hp => ?_) (fun _ _ h => h.elim)
  obtain ⟨rfl, rfl⟩ := hp
  refine z_weq (w' := [zH, zO _ [zr _ _, zr _ _, zr _ _, zr _ _, zr _ _, zi _, zi _, zr _ _, zr _ _], zH, zO _ [zr _ _, zi _, zi _, zi _], zAi 0 24 _, zH, zH, zH, zH, zH, zH, zH, zH, zH, zH, zH, zH, zH, zH, zH, zH, zH, zO _ [zi _, zi _, zr _ _], zAi 0 24 _, zAi 0 (prs n f).length _]) rfl ?_
  refine z_seq (S' := zr _ _ :: _) rfl ?_
  refine z_astore_n F dX1_betters_4 (Nat.le_of_ble_eq_true rfl) ?_
  refine z_leq (L' := [_, _, _, _, _, _, _, _, _]) rfl ?_
  refine z_aload_n F dX1_betters_5 rfl ?_
  refine z_get F zC1 (f := 2) rfl (Nat.le_of_ble_eq_true rfl) q316 rfl dX1_betters_6 ?_
  refine z_aload_n F dX1_betters_9 rfl ?_
  refine z_callV F (c_price n (nI d) f _ _ _ _ h24) 1 rfl (lw_V q862 q863 q864 q110 q865) (by decide +kernel) ⟨Nat.le_of_ble_eq_true rfl, Nat.le_of_ble_eq_true rfl⟩ ⟨by omega, by omega⟩ [0, 3, 4, 22, 23] 25 ⟨rfl, rfl, rfl, ⟨Or.inl rfl, Or.inr rfl, Or.inr rfl, Or.inr rfl, Or.inr rfl, trivial⟩⟩ (fun h => nomatch h) (Nat.le_of_ble_eq_true rfl) ⟨⟨Or.inr trivial, Or.inr rfl, Or.inr trivial, Or.inl rfl, Or.inl rfl, Or.inr trivial, Or.inr trivial, Or.inr trivial, Or.inr trivial, Or.inr trivial, Or.inr trivial, Or.inr trivial, Or.inr trivial, Or.inr trivial, Or.inr trivial, Or.inr trivial, Or.inr trivial, Or.inr trivial, Or.inr trivial, Or.inr trivial, Or.inr trivial, Or.inr trivial, Or.inl rfl, Or.inl rfl, Or.inr trivial, trivial⟩, rfl, rfl, rfl, Nat.le_of_ble_eq_true rfl⟩ rfl zC2 rfl rfl dX1_betters_10 (fun r_10 w_10 hp => ?_) (fun _ _ h => h.elim)
  obtain ⟨rfl, sn1, g1, sm1, D1, rfl⟩ := hp
  refine z_weq (w' := [zH, zO _ [zr _ _, zr _ _, zr _ _, zr _ _, zr _ _, zi _, zi _, zr _ _, zr _ _], zH, zO _ [zr _ _, zi _, zi _, zi _], zAi 0 24 _, zH, zH, zH, zH, zH, zH, zH, zH, zH, zH, zH, zH, zH, zH, zH, zH, zH, zO _ [zi _, zi _, zr _ _], zAi 0 24 _, zAi 0 (prs n f).length _]) rfl ?_
  refine z_seq (S' := zi _ :: _) rfl ?_
  refine z_istore_n F dX1_betters_13 (Nat.le_of_ble_eq_true rfl) ?_
  refine z_leq (L' := [_, _, _, _, _, _, _, _, _]) rfl ?_
  refine z_iconst F (-1) dX1_betters_14 rfl ?_
  refine z_istore F dX1_betters_15 (Nat.le_of_ble_eq_true rfl) ?_
  refine z_leq (L' := [_, _, _, _, _, _, _, _, _]) rfl ?_
  refine z_iconst F (nI 0) dX1_betters_17 rfl ?_
  refine z_istore F dX1_betters_18 (Nat.le_of_ble_eq_true rfl) ?_
  refine z_leq (L' := [_, _, _, _, _, _, _, _, _]) rfl ?_
  refine z_widen (k' := 1) (n' := (prs n f).length) (by omega) (by omega) ?_
  exact l20 _ 0 sn1 g1 sm1 D1 (Nat.lt_succ_self _) (by omega)
end C55
