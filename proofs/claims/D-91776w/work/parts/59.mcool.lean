/-! the reference: cool -/
section C59
theorem c_rolls (F0 : Nat → Int32) (G : Nat → Int64) (A : Nat → Nat → Int32) (B : Nat → Nat → Int64) (v : Int32) (h : F0 34 = v) :
    zCtr yX6_rolls cX6_rolls 1 (some .int) 0 0 0 [zr 1 0] [zH, zG F0 G A B] (fun r w => r = some (zi (nI (rl (lcg v)))) ∧ w = [zH, zG (upd F0 34 (lcg v)) G A B]) zNx := by
  refine z_start (by decide) [some (zr 1 0)] rfl (fun _ => Nat.le_of_ble_eq_true rfl) (fun _ => rfl) (fun X F E hno hin => ?_)
  refine z_aload_n F dX6_rolls_0 rfl ?_
  refine z_aload_n F dX6_rolls_1 rfl ?_
  refine z_mi F rfl 34 rfl (Nat.le_of_ble_eq_true rfl) rfl q1514 dX6_rolls_2 ?_
  refine z_ldcw F dX6_rolls_5 q1977 ?_
  refine z_imul F dX6_rolls_8 ?_
  refine z_sipush F (nI 12345) dX6_rolls_9 rfl ?_
  refine z_iadd F dX6_rolls_12 ?_
  refine z_ieq (show _ = lcg v from by rw [h]; rfl) ?_
  refine z_pmi F rfl 34 rfl (Nat.le_of_ble_eq_true rfl) rfl q1514 rfl rfl rfl dX6_rolls_13 ?_
  refine z_weq (w' := [_, _]) rfl ?_
  refine z_aload_n F dX6_rolls_16 rfl ?_
  refine z_mi F rfl 34 rfl (Nat.le_of_ble_eq_true rfl) rfl q1514 dX6_rolls_17 ?_
  refine z_bipush F (nI 16) dX6_rolls_20 rfl ?_
  refine z_ishr F dX6_rolls_22 ?_
  refine z_sipush F (nI 32767) dX6_rolls_23 rfl ?_
  refine z_iand F dX6_rolls_26 ?_
  refine z_ieq (rl_eq _) ?_
  exact z_iret F E rfl dX6_rolls_27 (by omega) (by omega) (⟨rfl, rfl⟩)
set_option maxHeartbeats 8000000 in
theorem c_mcool_ok (F0 : Nat → Int32) (G : Nat → Int64) (A : Nat → Nat → Int32) (B : Nat → Nat → Int64) (j n d : Nat) (f : Nat → Int32) (v0 : Int32) (T H : Nat) (hj : j < 8) (h : nok n d f) (hs : Slt A j n (nI d) f) (hT : T ≤ 500) (hH : H ≤ 10000) :
    zCtr yX6_cool cX6_cool 15 (some .int) 5 0 0 [zr 1 0, zi (nI j), zi v0, zi (nI T), zi (nI H)] [zH, zG F0 G A B] (fun r w => r = some (zi (nI (coR n f v0 T H).1)) ∧ ∃ F' A', w = [zH, zG F' G A' B] ∧ F' 0 = nI 0 ∧ frm [0, 4, 5, 20, 24, 25, 34] F0 F' ∧ frm [1, 2, 3, 6, 21, 22, 23] A A' ∧ Slt A' j n (nI d) (coR n f v0 T H).2 ∧ ∀ i, i < 8 → i ≠ j → SltEq A A' i) zNx := by
  refine z_start (by decide) [some (zr 1 0), some (zi (nI j)), some (zi v0), some (zi (nI T)), some (zi (nI H)), none, none, none, none, none, none, none, none, none, none] rfl (fun _ => Nat.le_of_ble_eq_true rfl) (fun _ => rfl) (fun X F E hno hin => ?_)
  have h1 := h.n1
  have h24 := h.n24
  have h96 := prs_96 h
  generalize hLe : (prs n f).length = L at *
  have b1 : inB (nI T) (nI 0) (nI 500) = true := inB_n (by omega) (by omega) hT
  have b2 : inB (nI H) (nI 0) (nI 10000) = true := inB_n (by omega) (by omega) hH
  have hco : L = 0 → coR n f v0 T H = (0, f) := fun e => by unfold coR; rw [hLe, if_pos e]
  have hco2 : ¬ L = 0 → coR n f v0 T H = ((cls n L H (v0, f, 0) T).2.2, (cls n L H (v0, f, 0) T).2.1) := fun e => by unfold coR; rw [hLe, if_neg e]
  have loop : 0 < L → ∀ (m t' : Nat) (s : CS) (F1 : Nat → Int32) (A1 : Nat → Nat → Int32), T - t' < m → t' ≤ T → s = cls n L H (v0, f, 0) t' → F1 0 = nI 0 → F1 4 = nI n → F1 5 = nI d → F1 20 = nI L → F1 34 = s.1 → frm [0, 4, 5, 20, 24, 25, 34] F0 F1 → frm [6, 21, 22, 23] A A1 → LnE A1 (prs n s.2.1) → (∀ k, k < 24 → A1 6 k = s.2.1 k) → Z X [some (zr 1 0), some (zi (nI j)), some (zi v0), some (zi (nI T)), some (zi (nI H)), some (zi (nI (H - t'))), some (zi (nI s.2.2)), some (zi (nI t')), none, none, none, none, none, none, none] [] [zH, zG F1 G A1 B] 0 0 74 := by
    intro hL m
    induction m with
    | zero => intro t' s F1 A1 hm; omega
    | succ m ih =>
      intro t' s F1 A1 hm ht hs' g0 g4 g5 g20 g34 hF hA hE hf1
      obtain ⟨k1, k2, k3⟩ := cls_ok (n := n) (d := d) (L := L) (H := H) (s := (v0, f, 0)) h hLe hL rfl t'
      rw [← hs'] at k1 k2 k3
      have hcp := cpr_le k1
      have m1 : cl1 L s.1 < L := Nat.mod_lt _ hL
      have m2 : cl2 L s.1 < L := Nat.mod_lt _ hL
      have fin : ∀ (s' : CS) (F1 : Nat → Int32) (A1 : Nat → Nat → Int32) (o1 o2 o3 o4 o5 o6 o7 : Option zV), t' < T → s' = cst n L (H - t') s → F1 0 = nI 0 → F1 4 = nI n → F1 5 = nI d → F1 20 = nI L → F1 34 = s'.1 → frm [0, 4, 5, 20, 24, 25, 34] F0 F1 → frm [6, 21, 22, 23] A A1 → LnE A1 (prs n s'.2.1) → (∀ k, k < 24 → A1 6 k = s'.2.1 k) → Z X [some (zr 1 0), some (zi (nI j)), some (zi v0), some (zi (nI T)), some (zi (nI H)), some (zi (nI (H - t'))), some (zi (nI s'.2.2)), some (zi (nI t')), o1, o2, o3, o4, o5, o6, o7] [] [zH, zG F1 G A1 B] 0 0 214 := by
        intro s' F1 A1 o1 o2 o3 o4 o5 o6 o7 hlt e g0 g4 g5 g20 g34 hF hA hE hf1
        have hh := ih (t' + 1) s' F1 A1 (by omega) (by omega) (by rw [e, hs']; rfl) g0 g4 g5 g20 g34 hF hA hE hf1
        refine z_iload F dX6_cool_214 rfl ?_
        refine z_if_leN F (by omega) (tgt := 226) dX6_cool_216 (by decide) (fun c_216 => ?_) (fun c_216 => ?_)
        · refine z_iconst F (nI 0) dX6_cool_226 rfl ?_
          refine z_istore F dX6_cool_227 (Nat.le_of_ble_eq_true rfl) ?_
          refine z_leq (L' := [_, _, _, _, _, _, _, _, _, _, _, _, _, _, _]) rfl ?_
          refine z_iincN F 1 dX6_cool_229 rfl rfl ?_
          refine z_leq (L' := [_, _, _, _, _, _, _, _, _, _, _, _, _, _, _]) rfl ?_
          refine z_goto F (tgt := 74) dX6_cool_232 (by decide) ?_
          refine z_loc _ ?_ hh
          exact ⟨rfl, rfl, rfl, rfl, rfl, by rw [show H - (t' + 1) = 0 by omega], rfl, rfl, trivial⟩
        · refine z_iload F dX6_cool_219 rfl ?_
          refine z_iconst F (nI 1) dX6_cool_221 rfl ?_
          refine z_isubN F (by omega) dX6_cool_222 ?_
          refine z_goto F (tgt := 227) dX6_cool_223 (by decide) ?_
          refine z_istore F dX6_cool_227 (Nat.le_of_ble_eq_true rfl) ?_
          refine z_leq (L' := [_, _, _, _, _, _, _, _, _, _, _, _, _, _, _]) rfl ?_
          refine z_iincN F 1 dX6_cool_229 rfl rfl ?_
          refine z_leq (L' := [_, _, _, _, _, _, _, _, _, _, _, _, _, _, _]) rfl ?_
          refine z_goto F (tgt := 74) dX6_cool_232 (by decide) ?_
          refine z_loc _ ?_ hh
          exact ⟨rfl, rfl, rfl, rfl, rfl, rfl, rfl, rfl, trivial⟩
      have hb2 : rl (lcg (lcg (lcg s.1))) % 2 < 2 := Nat.mod_lt _ (by decide)
      have hmin : min (cl1 L s.1) (cl2 L s.1) < L := Nat.lt_of_le_of_lt (Nat.min_le_left _ _) m1
      have hmax : max (cl1 L s.1) (cl2 L s.1) < L := Nat.max_lt.mpr ⟨m1, m2⟩
      have r1 := rl_lt (lcg s.1)
      have r2 := rl_lt (lcg (lcg s.1))
      have r3 := rl_lt (lcg (lcg (lcg s.1)))
      have hc3 : cl3 s.1 = decide (rl (lcg (lcg (lcg s.1))) % 2 = 1) := rfl
      have k2i : min (cl1 L s.1) (cl2 L s.1) < (prs n s.2.1).length := Nat.lt_of_lt_of_eq hmin k2.symm
      have k2j : max (cl1 L s.1) (cl2 L s.1) < (prs n s.2.1).length := Nat.lt_of_lt_of_eq hmax k2.symm
      have J178 : ∀ (F1 : Nat → Int32) (A1 : Nat → Nat → Int32), t' < T → ¬ cl1 L s.1 = cl2 L s.1 → F1 0 = nI 0 → F1 4 = nI n → F1 5 = nI d → F1 20 = nI L → F1 34 = lcg (lcg (lcg s.1)) → frm [0, 4, 5, 20, 24, 25, 34] F0 F1 → frm [6, 21, 22, 23] A A1 → LnE A1 (prs n s.2.1) → (∀ k, k < 24 → A1 6 k = s.2.1 k) → Z X [some (zr 1 0), some (zi (nI j)), some (zi v0), some (zi (nI T)), some (zi (nI H)), some (zi (nI (H - t'))), some (zi (nI s.2.2)), some (zi (nI t')), none, none, some (zi (bI (cl3 s.1))), some (zi (nI (cpr n s.2.1))), some (zi (nI (min (cl1 L s.1) (cl2 L s.1)))), some (zi (nI (max (cl1 L s.1) (cl2 L s.1)))), none] [zi (if cok n s.2.1 (min (cl1 L s.1) (cl2 L s.1)) (max (cl1 L s.1) (cl2 L s.1)) (cl3 s.1) then nI (cpr n (cgo n s.2.1 (min (cl1 L s.1) (cl2 L s.1)) (max (cl1 L s.1) (cl2 L s.1)) (cl3 s.1))) else -1)] [zH, zG F1 G A1 B] 0 0 178 := by
        intro F1 A1 hlt hne g0 g4 g5 g20 g34 hF hA hE hf1
        have y2 : cacc n L (H - t') s = true → cst n L (H - t') s = (lcg (lcg (lcg s.1)), cgo n s.2.1 (min (cl1 L s.1) (cl2 L s.1)) (max (cl1 L s.1) (cl2 L s.1)) (cl3 s.1), s.2.2 + 1) := cst_y
        have ay := fun q3 q4 => cacc_y (n := n) (L := L) (hh := H - t') (s := s) hne q3 q4
        have an := fun q => cacc_n (n := n) (L := L) (hh := H - t') (s := s) q
        generalize hi0 : min (cl1 L s.1) (cl2 L s.1) = i0 at *
        generalize hj0 : max (cl1 L s.1) (cl2 L s.1) = j0 at *
        obtain ⟨c1, c2, c3', c4'⟩ := c34 k1 k2j (cl3 s.1)
        obtain ⟨p1, p2, p3⟩ := prs_at k2i
        rcases hk : cok n s.2.1 i0 j0 (cl3 s.1) with _ | _
        · rw [if_neg (by decide)]
          refine z_istore F dX6_cool_178 (Nat.le_of_ble_eq_true rfl) ?_
          refine z_leq (L' := [_, _, _, _, _, _, _, _, _, _, _, _, _, _, _]) rfl ?_
          refine z_iload F dX6_cool_180 rfl ?_
          refine z_iconst F (-1) dX6_cool_182 rfl ?_
          refine z_icmp_eq F (tgt := 214) dX6_cool_183 (by decide) (fun c_183 => ?_) (fun c_183 => ?_)
          · exact fin (lcg (lcg (lcg s.1)), s.2.1, s.2.2) F1 A1 _ _ _ _ _ _ _ hlt (cst_n (an (Or.inr (Or.inl hk)))).symm g0 g4 g5 g20 g34 hF hA hE hf1
          · exact absurd rfl c_183
        · rw [if_pos rfl]
          obtain ⟨q1, q2, q3⟩ := cgo_ok k1 k2i k2j hk
          have hcg := cpr_le q1
          have hlen := q2.trans k2
          refine z_istore F dX6_cool_178 (Nat.le_of_ble_eq_true rfl) ?_
          refine z_leq (L' := [_, _, _, _, _, _, _, _, _, _, _, _, _, _, _]) rfl ?_
          refine z_iload F dX6_cool_180 rfl ?_
          refine z_iconst F (-1) dX6_cool_182 rfl ?_
          refine z_icmp_eq F (tgt := 214) dX6_cool_183 (by decide) (fun c_183 => ?_) (fun c_183 => ?_)
          · exact absurd c_183 (nI_ne (by omega))
          · refine z_iload F dX6_cool_186 rfl ?_
            refine z_iload F dX6_cool_188 rfl ?_
            refine z_iload F dX6_cool_190 rfl ?_
            refine z_iaddN F dX6_cool_192 ?_
            refine z_icmp_gtN F (by omega) (by omega) (tgt := 214) dX6_cool_193 (by decide) (fun c_193 => ?_) (fun c_193 => ?_)
            · exact fin (lcg (lcg (lcg s.1)), s.2.1, s.2.2) F1 A1 _ _ _ _ _ _ _ hlt (cst_n (an (Or.inr (Or.inr c_193)))).symm g0 g4 g5 g20 g34 hF hA hE hf1
            · refine z_aload_n F dX6_cool_196 rfl ?_
              refine z_iload F dX6_cool_197 rfl ?_
              refine z_iload F dX6_cool_199 rfl ?_
              refine z_iload F dX6_cool_201 rfl ?_
              refine z_callV F (c_mchg _ _ _ _ n d s.2.1 i0 j0 (cl3 s.1) k1 hE hf1 k2i k2j) 3 rfl (lw_V q1949 q1951 qs74 q117 q1952) (by decide +kernel) ⟨Nat.le_of_ble_eq_true rfl, Nat.le_of_ble_eq_true rfl⟩ ⟨by omega, by omega⟩ [0, 1] 2 ⟨rfl, rfl, rfl, ⟨Or.inl rfl, Or.inr rfl, trivial⟩⟩ (fun h => nomatch h) (Nat.le_of_ble_eq_true rfl) ⟨⟨Or.inr trivial, Or.inl rfl, trivial⟩, rfl, rfl, rfl, Nat.le_of_ble_eq_true rfl⟩ rfl zC6 (zat_G0 rfl) rfl dX6_cool_203 (fun r_203 w_203 hp => ?_) (fun _ _ h => h.elim)
              obtain ⟨rfl, rfl⟩ := hp
              rw [if_pos hk]
              refine z_weq (w' := [zH, zG _ _ _ _]) rfl ?_
              refine z_seq (S' := zi _ :: _) rfl ?_
              refine z_pop F dX6_cool_206 rfl ?_
              refine z_aload_n F dX6_cool_207 rfl ?_
              refine z_callV F (c_lists F1 _ _ _ n (cgo n s.2.1 i0 j0 (cl3 s.1)) h24 (by omega) g4 (fun k hk2 => by rw [fA_at]; exact chg_cong hf1 (by omega) (by omega) (by omega) (by omega) k (by omega))) 0 rfl (lw_V q1868 q1870 qs62 q117 q1871) (by decide +kernel) ⟨Nat.le_of_ble_eq_true rfl, Nat.le_of_ble_eq_true rfl⟩ ⟨by omega, by omega⟩ [0, 1] 2 ⟨rfl, rfl, rfl, ⟨Or.inl rfl, Or.inr rfl, trivial⟩⟩ (fun h => nomatch h) (Nat.le_of_ble_eq_true rfl) ⟨⟨Or.inr trivial, Or.inl rfl, trivial⟩, rfl, rfl, rfl, Nat.le_of_ble_eq_true rfl⟩ rfl zC6 (zat_G0 rfl) rfl dX6_cool_208 (fun r_208 w_208 hp => ?_) (fun _ _ h => h.elim)
              obtain ⟨rfl, A2, rfl, a1, a2⟩ := hp
              rw [hlen]
              refine z_weq (w' := [zH, zG _ _ _ _]) rfl ?_
              refine z_seq (S' := []) rfl ?_
              refine z_iincN F 1 dX6_cool_211 rfl rfl ?_
              refine z_leq (L' := [_, _, _, _, _, _, _, _, _, _, _, _, _, _, _]) rfl ?_
              exact fin (lcg (lcg (lcg s.1)), cgo n s.2.1 i0 j0 (cl3 s.1), s.2.2 + 1) (upd F1 20 (nI L)) A2 _ _ _ _ _ _ _ hlt (y2 (ay hk c_193)).symm g0 g4 g5 rfl g34 (frm_upd hF (by decide)) ((hA.tr (frm_fA (l := [6]) frm.rf (by decide)) (l2 := [6, 21, 22, 23]) (by decide) (by decide)).tr a1 (by decide) (by decide)) a2 (fun k hk2 => (congrFun (a1.at 6 rfl) k).trans (by rw [fA_at]; exact chg_cong hf1 (by omega) (by omega) (by omega) (by omega) k hk2))
      have J157 : ∀ (F1 : Nat → Int32) (A1 : Nat → Nat → Int32), t' < T → F1 0 = nI 0 → F1 4 = nI n → F1 5 = nI d → F1 20 = nI L → F1 34 = lcg (lcg (lcg s.1)) → frm [0, 4, 5, 20, 24, 25, 34] F0 F1 → frm [6, 21, 22, 23] A A1 → LnE A1 (prs n s.2.1) → (∀ k, k < 24 → A1 6 k = s.2.1 k) → Z X [some (zr 1 0), some (zi (nI j)), some (zi v0), some (zi (nI T)), some (zi (nI H)), some (zi (nI (H - t'))), some (zi (nI s.2.2)), some (zi (nI t')), some (zi (nI (cl1 L s.1))), some (zi (nI (cl2 L s.1))), some (zi (bI (cl3 s.1))), some (zi (nI (cpr n s.2.1))), some (zi (nI (min (cl1 L s.1) (cl2 L s.1)))), some (zi (nI (max (cl1 L s.1) (cl2 L s.1)))), none] [] [zH, zG F1 G A1 B] 0 0 157 := by
        intro F1 A1 hlt g0 g4 g5 g20 g34 hF hA hE hf1
        refine z_iload F dX6_cool_157 rfl ?_
        refine z_iload F dX6_cool_159 rfl ?_
        refine z_icmp_neN F (by omega) (by omega) (tgt := 168) dX6_cool_161 (by decide) (fun c_161 => ?_) (fun c_161 => ?_)
        · refine z_aload_n F dX6_cool_168 rfl ?_
          refine z_iload F dX6_cool_169 rfl ?_
          refine z_iload F dX6_cool_171 rfl ?_
          refine z_iload F dX6_cool_173 rfl ?_
          refine z_callV F (c_mpriceOf _ _ _ _ n d s.2.1 (min (cl1 L s.1) (cl2 L s.1)) (max (cl1 L s.1) (cl2 L s.1)) (cl3 s.1) k1 g4 hE hf1 k2i k2j) 3 rfl (lw_V q1961 q1963 qs76 q117 q1964) (by decide +kernel) ⟨Nat.le_of_ble_eq_true rfl, Nat.le_of_ble_eq_true rfl⟩ ⟨by omega, by omega⟩ [0, 1] 2 ⟨rfl, rfl, rfl, ⟨Or.inl rfl, Or.inr rfl, trivial⟩⟩ (fun h => nomatch h) (Nat.le_of_ble_eq_true rfl) ⟨⟨Or.inr trivial, Or.inl rfl, trivial⟩, rfl, rfl, rfl, Nat.le_of_ble_eq_true rfl⟩ rfl zC6 (zat_G0 rfl) rfl dX6_cool_175 (fun r_175 w_175 hp => ?_) (fun _ _ h => h.elim)
          obtain ⟨rfl, F2, A2, rfl, a1, a2, a3⟩ := hp
          refine z_weq (w' := [zH, zG _ _ _ _]) rfl ?_
          refine z_seq (S' := zi _ :: _) rfl ?_
          refine z_loc _ ?_ (J178 F2 A2 hlt c_161 ((a1.at 0 rfl).trans g0) ((a1.at 4 rfl).trans g4) ((a1.at 5 rfl).trans g5) ((a1.at 20 rfl).trans g20) ((a1.at 34 rfl).trans g34) (hF.tr a1 (by decide) (by decide)) (hA.tr a2 (by decide) (by decide)) (hE.to (a2.at 21 rfl) (a2.at 22 rfl)) a3)
          exact ⟨rfl, rfl, rfl, rfl, rfl, rfl, rfl, rfl, rfl, rfl, rfl, rfl, trivial⟩
        · refine z_iconst F (-1) dX6_cool_164 rfl ?_
          refine z_goto F (tgt := 178) dX6_cool_165 (by decide) ?_
          refine z_istore F dX6_cool_178 (Nat.le_of_ble_eq_true rfl) ?_
          refine z_leq (L' := [_, _, _, _, _, _, _, _, _, _, _, _, _, _, _]) rfl ?_
          refine z_iload F dX6_cool_180 rfl ?_
          refine z_iconst F (-1) dX6_cool_182 rfl ?_
          refine z_icmp_eq F (tgt := 214) dX6_cool_183 (by decide) (fun c_183 => ?_) (fun c_183 => ?_)
          · exact fin (lcg (lcg (lcg s.1)), s.2.1, s.2.2) F1 A1 _ _ _ _ _ _ _ hlt (cst_n (cacc_n (Or.inl c_161))).symm g0 g4 g5 g20 g34 hF hA hE hf1
          · exact absurd rfl c_183
      have hpp : mpr n s.2.1 = cpr n s.2.1 := mpr_eq h24 (fun a b ha hb => k1.sym ha hb)
      refine z_iload F dX6_cool_74 rfl ?_
      refine z_iload_n F dX6_cool_76 rfl ?_
      refine z_icmp_geN F (by omega) (by omega) (tgt := 235) dX6_cool_77 (by decide) (fun c_77 => ?_) (fun c_77 => ?_)
      · have et : t' = T := by omega
        subst et
        have e0 := hco2 (by omega)
        rw [← hs'] at e0
        refine z_aload_n F dX6_cool_235 rfl ?_
        refine z_iload_n F dX6_cool_236 rfl ?_
        refine z_callV F (c_keeps _ _ _ _ j n (nI d) s.2.1 hj ⟨g4, g5, hf1⟩) 1 rfl (lw_V q1724 q1726 qs41 q117 q1727) (by decide +kernel) ⟨Nat.le_of_ble_eq_true rfl, Nat.le_of_ble_eq_true rfl⟩ ⟨by omega, by omega⟩ [0, 1] 2 ⟨rfl, rfl, rfl, ⟨Or.inl rfl, Or.inr rfl, trivial⟩⟩ (fun h => nomatch h) (Nat.le_of_ble_eq_true rfl) ⟨⟨Or.inr trivial, Or.inl rfl, trivial⟩, rfl, rfl, rfl, Nat.le_of_ble_eq_true rfl⟩ rfl zC6 (zat_G0 rfl) rfl dX6_cool_237 (fun r_237 w_237 hp => ?_) (fun _ _ h => h.elim)
        obtain ⟨rfl, A3, rfl, b1, b2, b3⟩ := hp
        refine z_weq (w' := [zH, zG _ _ _ _]) rfl ?_
        refine z_seq (S' := []) rfl ?_
        refine z_iload F dX6_cool_240 rfl ?_
        exact z_iret F E rfl dX6_cool_242 (by omega) (by omega) (⟨by rw [e0], F1, A3, rfl, g0, hF, hA.tr b1 (by decide) (by decide), by rw [e0]; exact b2, fun i hi hne => (SltEq.of6 hA (by decide)).tr (b3 i hi hne)⟩)
      · refine z_aload_n F dX6_cool_80 rfl ?_
        refine z_callV F (c_rolls _ _ _ _ s.1 g34) 0 rfl (lw_V q1973 q1975 qs78 q117 q1976) (by decide +kernel) ⟨Nat.le_of_ble_eq_true rfl, Nat.le_of_ble_eq_true rfl⟩ ⟨by omega, by omega⟩ [0, 1] 2 ⟨rfl, rfl, rfl, ⟨Or.inl rfl, Or.inr rfl, trivial⟩⟩ (fun h => nomatch h) (Nat.le_of_ble_eq_true rfl) ⟨⟨Or.inr trivial, Or.inl rfl, trivial⟩, rfl, rfl, rfl, Nat.le_of_ble_eq_true rfl⟩ rfl zC6 (zat_G0 rfl) rfl dX6_cool_81 (fun r_81 w_81 hp => ?_) (fun _ _ h => h.elim)
        obtain ⟨rfl, rfl⟩ := hp
        refine z_weq (w' := [zH, zG _ _ _ _]) rfl ?_
        refine z_seq (S' := zi _ :: _) rfl ?_
        refine z_aload_n F dX6_cool_84 rfl ?_
        refine z_mi F rfl 20 rfl (Nat.le_of_ble_eq_true rfl) rfl q1500 dX6_cool_85 ?_
        refine z_ieq ((show _ = nI L from g20)) ?_
        refine z_iremN F (by omega) (by omega) (by omega) dX6_cool_88 ?_
        refine z_ieq ((show nI (rl (lcg s.1) % L) = nI (cl1 L s.1) from rfl)) ?_
        refine z_istore F dX6_cool_89 (Nat.le_of_ble_eq_true rfl) ?_
        refine z_leq (L' := [_, _, _, _, _, _, _, _, _, _, _, _, _, _, _]) rfl ?_
        refine z_aload_n F dX6_cool_91 rfl ?_
        refine z_callV F (c_rolls _ _ _ _ (lcg s.1) rfl) 0 rfl (lw_V q1973 q1975 qs78 q117 q1976) (by decide +kernel) ⟨Nat.le_of_ble_eq_true rfl, Nat.le_of_ble_eq_true rfl⟩ ⟨by omega, by omega⟩ [0, 1] 2 ⟨rfl, rfl, rfl, ⟨Or.inl rfl, Or.inr rfl, trivial⟩⟩ (fun h => nomatch h) (Nat.le_of_ble_eq_true rfl) ⟨⟨Or.inr trivial, Or.inl rfl, trivial⟩, rfl, rfl, rfl, Nat.le_of_ble_eq_true rfl⟩ rfl zC6 (zat_G0 rfl) rfl dX6_cool_92 (fun r_92 w_92 hp => ?_) (fun _ _ h => h.elim)
        obtain ⟨rfl, rfl⟩ := hp
        refine z_weq (w' := [zH, zG _ _ _ _]) rfl ?_
        refine z_seq (S' := zi _ :: _) rfl ?_
        refine z_aload_n F dX6_cool_95 rfl ?_
        refine z_mi F rfl 20 rfl (Nat.le_of_ble_eq_true rfl) rfl q1500 dX6_cool_96 ?_
        refine z_ieq ((show _ = nI L from g20)) ?_
        refine z_iremN F (by omega) (by omega) (by omega) dX6_cool_99 ?_
        refine z_ieq ((show nI (rl (lcg (lcg s.1)) % L) = nI (cl2 L s.1) from rfl)) ?_
        refine z_istore F dX6_cool_100 (Nat.le_of_ble_eq_true rfl) ?_
        refine z_leq (L' := [_, _, _, _, _, _, _, _, _, _, _, _, _, _, _]) rfl ?_
        refine z_aload_n F dX6_cool_102 rfl ?_
        refine z_callV F (c_rolls _ _ _ _ (lcg (lcg s.1)) rfl) 0 rfl (lw_V q1973 q1975 qs78 q117 q1976) (by decide +kernel) ⟨Nat.le_of_ble_eq_true rfl, Nat.le_of_ble_eq_true rfl⟩ ⟨by omega, by omega⟩ [0, 1] 2 ⟨rfl, rfl, rfl, ⟨Or.inl rfl, Or.inr rfl, trivial⟩⟩ (fun h => nomatch h) (Nat.le_of_ble_eq_true rfl) ⟨⟨Or.inr trivial, Or.inl rfl, trivial⟩, rfl, rfl, rfl, Nat.le_of_ble_eq_true rfl⟩ rfl zC6 (zat_G0 rfl) rfl dX6_cool_103 (fun r_103 w_103 hp => ?_) (fun _ _ h => h.elim)
        obtain ⟨rfl, rfl⟩ := hp
        refine z_weq (w' := [zH, zG _ _ _ _]) rfl ?_
        refine z_seq (S' := zi _ :: _) rfl ?_
        refine z_iconst F (nI 2) dX6_cool_106 rfl ?_
        refine z_iremN F (by omega) (by omega) (by omega) dX6_cool_107 ?_
        refine z_iconst F (nI 1) dX6_cool_108 rfl ?_
        refine z_icmp_neN F (by omega) (by omega) (tgt := 116) dX6_cool_109 (by decide) (fun c_109 => ?_) (fun c_109 => ?_)
        · refine z_iconstB F false dX6_cool_116 rfl ?_
          refine z_ieq (y := bI (cl3 s.1)) (by rw [hc3, decide_eq_false c_109]) ?_
          refine z_istore F dX6_cool_117 (Nat.le_of_ble_eq_true rfl) ?_
          refine z_leq (L' := [_, _, _, _, _, _, _, _, _, _, _, _, _, _, _]) rfl ?_
          refine z_aload_n F dX6_cool_119 rfl ?_
          refine z_callV F (c_mprice (upd (upd (upd F1 34 (lcg s.1)) 34 (lcg (lcg s.1))) 34 (lcg (lcg (lcg s.1)))) _ _ _ n s.2.1 h24 g4 (fun k hk => hf1 k (by omega))) 0 rfl (lw_V q1916 q1918 qs71 q117 q1919) (by decide +kernel) ⟨Nat.le_of_ble_eq_true rfl, Nat.le_of_ble_eq_true rfl⟩ ⟨by omega, by omega⟩ [0, 1] 2 ⟨rfl, rfl, rfl, ⟨Or.inl rfl, Or.inr rfl, trivial⟩⟩ (fun h => nomatch h) (Nat.le_of_ble_eq_true rfl) ⟨⟨Or.inr trivial, Or.inl rfl, trivial⟩, rfl, rfl, rfl, Nat.le_of_ble_eq_true rfl⟩ rfl zC6 (zat_G0 rfl) rfl dX6_cool_120 (fun r_120 w_120 hp => ?_) (fun _ _ h => h.elim)
          obtain ⟨rfl, F2, A2, rfl, a1, a2⟩ := hp
          rw [hpp]
          refine z_weq (w' := [zH, zG _ _ _ _]) rfl ?_
          refine z_seq (S' := zi _ :: _) rfl ?_
          refine z_istore F dX6_cool_123 (Nat.le_of_ble_eq_true rfl) ?_
          refine z_leq (L' := [_, _, _, _, _, _, _, _, _, _, _, _, _, _, _]) rfl ?_
          refine z_iload F dX6_cool_125 rfl ?_
          refine z_iload F dX6_cool_127 rfl ?_
          refine z_icmp_geN F (by omega) (by omega) (tgt := 137) dX6_cool_129 (by decide) (fun c_129 => ?_) (fun c_129 => ?_)
          · refine z_iload F dX6_cool_137 rfl ?_
            refine z_istore F dX6_cool_139 (Nat.le_of_ble_eq_true rfl) ?_
            refine z_leq (L' := [_, _, _, _, _, _, _, _, _, _, _, _, _, _, _]) rfl ?_
            refine z_iload F dX6_cool_141 rfl ?_
            refine z_iload F dX6_cool_143 rfl ?_
            refine z_icmp_geN F (by omega) (by omega) (tgt := 153) dX6_cool_145 (by decide) (fun c_145 => ?_) (fun c_145 => ?_)
            · refine z_iload F dX6_cool_153 rfl ?_
              refine z_istore F dX6_cool_155 (Nat.le_of_ble_eq_true rfl) ?_
              refine z_leq (L' := [_, _, _, _, _, _, _, _, _, _, _, _, _, _, _]) rfl ?_
              refine z_leq (L' := [some (zr 1 0), some (zi (nI j)), some (zi v0), some (zi (nI T)), some (zi (nI H)), some (zi (nI (H - t'))), some (zi (nI s.2.2)), some (zi (nI t')), some (zi (nI (cl1 L s.1))), some (zi (nI (cl2 L s.1))), some (zi (bI (cl3 s.1))), some (zi (nI (cpr n s.2.1))), some (zi (nI (min (cl1 L s.1) (cl2 L s.1)))), some (zi (nI (max (cl1 L s.1) (cl2 L s.1)))), none]) (by rw [Nat.min_eq_right c_129, Nat.max_eq_left c_129]) ?_
              exact J157 F2 A2 (by omega) ((a1.at 0 rfl).trans g0) ((a1.at 4 rfl).trans g4) ((a1.at 5 rfl).trans g5) ((a1.at 20 rfl).trans g20) ((a1.at 34 rfl).trans rfl) ((frm_upd (frm_upd (frm_upd hF (by decide)) (by decide)) (by decide)).tr a1 (by decide) (by decide)) (hA.tr a2 (by decide) (by decide)) (hE.to (a2.at 21 rfl) (a2.at 22 rfl)) (fun k hk => (congrFun (a2.at 6 rfl) k).trans (hf1 k hk))
            · exact absurd c_145 (Nat.not_lt.mpr c_129)
          · refine z_iload F dX6_cool_132 rfl ?_
            refine z_goto F (tgt := 139) dX6_cool_134 (by decide) ?_
            refine z_istore F dX6_cool_139 (Nat.le_of_ble_eq_true rfl) ?_
            refine z_leq (L' := [_, _, _, _, _, _, _, _, _, _, _, _, _, _, _]) rfl ?_
            refine z_iload F dX6_cool_141 rfl ?_
            refine z_iload F dX6_cool_143 rfl ?_
            refine z_icmp_geN F (by omega) (by omega) (tgt := 153) dX6_cool_145 (by decide) (fun c_145 => ?_) (fun c_145 => ?_)
            · exact absurd c_129 (Nat.not_lt.mpr c_145)
            · refine z_iload F dX6_cool_148 rfl ?_
              refine z_goto F (tgt := 155) dX6_cool_150 (by decide) ?_
              refine z_istore F dX6_cool_155 (Nat.le_of_ble_eq_true rfl) ?_
              refine z_leq (L' := [_, _, _, _, _, _, _, _, _, _, _, _, _, _, _]) rfl ?_
              refine z_leq (L' := [some (zr 1 0), some (zi (nI j)), some (zi v0), some (zi (nI T)), some (zi (nI H)), some (zi (nI (H - t'))), some (zi (nI s.2.2)), some (zi (nI t')), some (zi (nI (cl1 L s.1))), some (zi (nI (cl2 L s.1))), some (zi (bI (cl3 s.1))), some (zi (nI (cpr n s.2.1))), some (zi (nI (min (cl1 L s.1) (cl2 L s.1)))), some (zi (nI (max (cl1 L s.1) (cl2 L s.1)))), none]) (by rw [Nat.min_eq_left (Nat.le_of_lt c_129), Nat.max_eq_right (Nat.le_of_lt c_129)]) ?_
              exact J157 F2 A2 (by omega) ((a1.at 0 rfl).trans g0) ((a1.at 4 rfl).trans g4) ((a1.at 5 rfl).trans g5) ((a1.at 20 rfl).trans g20) ((a1.at 34 rfl).trans rfl) ((frm_upd (frm_upd (frm_upd hF (by decide)) (by decide)) (by decide)).tr a1 (by decide) (by decide)) (hA.tr a2 (by decide) (by decide)) (hE.to (a2.at 21 rfl) (a2.at 22 rfl)) (fun k hk => (congrFun (a2.at 6 rfl) k).trans (hf1 k hk))
        · refine z_iconstB F true dX6_cool_112 rfl ?_
          refine z_ieq (y := bI (cl3 s.1)) (by rw [hc3, decide_eq_true c_109]) ?_
          refine z_goto F (tgt := 117) dX6_cool_113 (by decide) ?_
          refine z_istore F dX6_cool_117 (Nat.le_of_ble_eq_true rfl) ?_
          refine z_leq (L' := [_, _, _, _, _, _, _, _, _, _, _, _, _, _, _]) rfl ?_
          refine z_aload_n F dX6_cool_119 rfl ?_
          refine z_callV F (c_mprice (upd (upd (upd F1 34 (lcg s.1)) 34 (lcg (lcg s.1))) 34 (lcg (lcg (lcg s.1)))) _ _ _ n s.2.1 h24 g4 (fun k hk => hf1 k (by omega))) 0 rfl (lw_V q1916 q1918 qs71 q117 q1919) (by decide +kernel) ⟨Nat.le_of_ble_eq_true rfl, Nat.le_of_ble_eq_true rfl⟩ ⟨by omega, by omega⟩ [0, 1] 2 ⟨rfl, rfl, rfl, ⟨Or.inl rfl, Or.inr rfl, trivial⟩⟩ (fun h => nomatch h) (Nat.le_of_ble_eq_true rfl) ⟨⟨Or.inr trivial, Or.inl rfl, trivial⟩, rfl, rfl, rfl, Nat.le_of_ble_eq_true rfl⟩ rfl zC6 (zat_G0 rfl) rfl dX6_cool_120 (fun r_120 w_120 hp => ?_) (fun _ _ h => h.elim)
          obtain ⟨rfl, F2, A2, rfl, a1, a2⟩ := hp
          rw [hpp]
          refine z_weq (w' := [zH, zG _ _ _ _]) rfl ?_
          refine z_seq (S' := zi _ :: _) rfl ?_
          refine z_istore F dX6_cool_123 (Nat.le_of_ble_eq_true rfl) ?_
          refine z_leq (L' := [_, _, _, _, _, _, _, _, _, _, _, _, _, _, _]) rfl ?_
          refine z_iload F dX6_cool_125 rfl ?_
          refine z_iload F dX6_cool_127 rfl ?_
          refine z_icmp_geN F (by omega) (by omega) (tgt := 137) dX6_cool_129 (by decide) (fun c_129 => ?_) (fun c_129 => ?_)
          · refine z_iload F dX6_cool_137 rfl ?_
            refine z_istore F dX6_cool_139 (Nat.le_of_ble_eq_true rfl) ?_
            refine z_leq (L' := [_, _, _, _, _, _, _, _, _, _, _, _, _, _, _]) rfl ?_
            refine z_iload F dX6_cool_141 rfl ?_
            refine z_iload F dX6_cool_143 rfl ?_
            refine z_icmp_geN F (by omega) (by omega) (tgt := 153) dX6_cool_145 (by decide) (fun c_145 => ?_) (fun c_145 => ?_)
            · refine z_iload F dX6_cool_153 rfl ?_
              refine z_istore F dX6_cool_155 (Nat.le_of_ble_eq_true rfl) ?_
              refine z_leq (L' := [_, _, _, _, _, _, _, _, _, _, _, _, _, _, _]) rfl ?_
              refine z_leq (L' := [some (zr 1 0), some (zi (nI j)), some (zi v0), some (zi (nI T)), some (zi (nI H)), some (zi (nI (H - t'))), some (zi (nI s.2.2)), some (zi (nI t')), some (zi (nI (cl1 L s.1))), some (zi (nI (cl2 L s.1))), some (zi (bI (cl3 s.1))), some (zi (nI (cpr n s.2.1))), some (zi (nI (min (cl1 L s.1) (cl2 L s.1)))), some (zi (nI (max (cl1 L s.1) (cl2 L s.1)))), none]) (by rw [Nat.min_eq_right c_129, Nat.max_eq_left c_129]) ?_
              exact J157 F2 A2 (by omega) ((a1.at 0 rfl).trans g0) ((a1.at 4 rfl).trans g4) ((a1.at 5 rfl).trans g5) ((a1.at 20 rfl).trans g20) ((a1.at 34 rfl).trans rfl) ((frm_upd (frm_upd (frm_upd hF (by decide)) (by decide)) (by decide)).tr a1 (by decide) (by decide)) (hA.tr a2 (by decide) (by decide)) (hE.to (a2.at 21 rfl) (a2.at 22 rfl)) (fun k hk => (congrFun (a2.at 6 rfl) k).trans (hf1 k hk))
            · exact absurd c_145 (Nat.not_lt.mpr c_129)
          · refine z_iload F dX6_cool_132 rfl ?_
            refine z_goto F (tgt := 139) dX6_cool_134 (by decide) ?_
            refine z_istore F dX6_cool_139 (Nat.le_of_ble_eq_true rfl) ?_
            refine z_leq (L' := [_, _, _, _, _, _, _, _, _, _, _, _, _, _, _]) rfl ?_
            refine z_iload F dX6_cool_141 rfl ?_
            refine z_iload F dX6_cool_143 rfl ?_
            refine z_icmp_geN F (by omega) (by omega) (tgt := 153) dX6_cool_145 (by decide) (fun c_145 => ?_) (fun c_145 => ?_)
            · exact absurd c_129 (Nat.not_lt.mpr c_145)
            · refine z_iload F dX6_cool_148 rfl ?_
              refine z_goto F (tgt := 155) dX6_cool_150 (by decide) ?_
              refine z_istore F dX6_cool_155 (Nat.le_of_ble_eq_true rfl) ?_
              refine z_leq (L' := [_, _, _, _, _, _, _, _, _, _, _, _, _, _, _]) rfl ?_
              refine z_leq (L' := [some (zr 1 0), some (zi (nI j)), some (zi v0), some (zi (nI T)), some (zi (nI H)), some (zi (nI (H - t'))), some (zi (nI s.2.2)), some (zi (nI t')), some (zi (nI (cl1 L s.1))), some (zi (nI (cl2 L s.1))), some (zi (bI (cl3 s.1))), some (zi (nI (cpr n s.2.1))), some (zi (nI (min (cl1 L s.1) (cl2 L s.1)))), some (zi (nI (max (cl1 L s.1) (cl2 L s.1)))), none]) (by rw [Nat.min_eq_left (Nat.le_of_lt c_129), Nat.max_eq_right (Nat.le_of_lt c_129)]) ?_
              exact J157 F2 A2 (by omega) ((a1.at 0 rfl).trans g0) ((a1.at 4 rfl).trans g4) ((a1.at 5 rfl).trans g5) ((a1.at 20 rfl).trans g20) ((a1.at 34 rfl).trans rfl) ((frm_upd (frm_upd (frm_upd hF (by decide)) (by decide)) (by decide)).tr a1 (by decide) (by decide)) (hA.tr a2 (by decide) (by decide)) (hE.to (a2.at 21 rfl) (a2.at 22 rfl)) (fun k hk => (congrFun (a2.at 6 rfl) k).trans (hf1 k hk))
  refine z_aload_n F dX6_cool_0 rfl ?_
  refine z_iload_n F dX6_cool_1 rfl ?_
  refine z_callV F (c_lays_ok _ _ _ _ j n (nI d) f hj (by omega) h24 hs) 1 rfl (lw_V q1732 q1734 qs42 q117 q1735) (by decide +kernel) ⟨Nat.le_of_ble_eq_true rfl, Nat.le_of_ble_eq_true rfl⟩ ⟨by omega, by omega⟩ [0, 1] 2 ⟨rfl, rfl, rfl, ⟨Or.inl rfl, Or.inr rfl, trivial⟩⟩ (fun h => nomatch h) (Nat.le_of_ble_eq_true rfl) ⟨⟨Or.inr trivial, Or.inl rfl, trivial⟩, rfl, rfl, rfl, Nat.le_of_ble_eq_true rfl⟩ rfl zC6 (zat_G0 rfl) rfl dX6_cool_2 (fun r_2 w_2 hp => ?_) (fun _ _ h => h.elim)
  obtain ⟨rfl, F1, A1, rfl, f0, f1, f2, f3⟩ := hp
  refine z_weq (w' := [zH, zG _ _ _ _]) rfl ?_
  refine z_seq (S' := zi _ :: _) rfl ?_
  refine z_if_eqB F (tgt := 44) dX6_cool_5 (by decide) (fun c_5 => ?_) (fun c_5 => ?_)
  · cases c_5
  · refine z_aload_n F dX6_cool_8 rfl ?_
    refine z_iload_n F dX6_cool_9 rfl ?_
    refine z_iconst F (nI 0) dX6_cool_10 rfl ?_
    refine z_sipush F (nI 500) dX6_cool_11 rfl ?_
    refine z_callS F (c_within (nI T) (nI 0) (nI 500)) 3 rfl (lw_S q1717 q1718 q117 q1719) (by decide +kernel) ⟨Nat.le_of_ble_eq_true rfl, Nat.le_of_ble_eq_true rfl⟩ ⟨by omega, by omega⟩ [0] 2 ⟨rfl, rfl, rfl, ⟨Or.inl rfl, trivial⟩⟩ (fun h => nomatch h) (Nat.le_of_ble_eq_true rfl) ⟨⟨Or.inr trivial, Or.inr trivial, trivial⟩, rfl, rfl, rfl, Nat.le_of_ble_eq_true rfl⟩ rfl rfl dX6_cool_14 (fun r_14 w_14 hp => ?_) (fun _ _ h => h.elim)
    obtain ⟨rfl, rfl⟩ := hp
    rw [b1]
    refine z_weq (w' := [zH, zG _ _ _ _]) rfl ?_
    refine z_seq (S' := zi _ :: _) rfl ?_
    refine z_if_eqB F (tgt := 36) dX6_cool_17 (by decide) (fun c_17 => ?_) (fun c_17 => ?_)
    · cases c_17
    · refine z_iload F dX6_cool_20 rfl ?_
      refine z_iconst F (nI 0) dX6_cool_22 rfl ?_
      refine z_sipush F (nI 10000) dX6_cool_23 rfl ?_
      refine z_callS F (c_within (nI H) (nI 0) (nI 10000)) 3 rfl (lw_S q1717 q1718 q117 q1719) (by decide +kernel) ⟨Nat.le_of_ble_eq_true rfl, Nat.le_of_ble_eq_true rfl⟩ ⟨by omega, by omega⟩ [0] 2 ⟨rfl, rfl, rfl, ⟨Or.inl rfl, trivial⟩⟩ (fun h => nomatch h) (Nat.le_of_ble_eq_true rfl) ⟨⟨Or.inr trivial, Or.inr trivial, trivial⟩, rfl, rfl, rfl, Nat.le_of_ble_eq_true rfl⟩ rfl rfl dX6_cool_26 (fun r_26 w_26 hp => ?_) (fun _ _ h => h.elim)
      obtain ⟨rfl, rfl⟩ := hp
      rw [b2]
      refine z_weq (w' := [zH, zG _ _ _ _]) rfl ?_
      refine z_seq (S' := zi _ :: _) rfl ?_
      refine z_if_eqB F (tgt := 36) dX6_cool_29 (by decide) (fun c_29 => ?_) (fun c_29 => ?_)
      · cases c_29
      · refine z_iconstB F true dX6_cool_32 rfl ?_
        refine z_goto F (tgt := 37) dX6_cool_33 (by decide) ?_
        refine z_iconst F (nI 2) dX6_cool_37 rfl ?_
        refine z_callV F (c_right _ _ _ _ true 2 f0 (by omega) (by omega)) 2 rfl (lw_V q1736 q1738 qs43 q117 q1739) (by decide +kernel) ⟨Nat.le_of_ble_eq_true rfl, Nat.le_of_ble_eq_true rfl⟩ ⟨by omega, by omega⟩ [0, 1] 2 ⟨rfl, rfl, rfl, ⟨Or.inl rfl, Or.inr rfl, trivial⟩⟩ (fun h => nomatch h) (Nat.le_of_ble_eq_true rfl) ⟨⟨Or.inr trivial, Or.inl rfl, trivial⟩, rfl, rfl, rfl, Nat.le_of_ble_eq_true rfl⟩ rfl zC6 (zat_G0 rfl) rfl dX6_cool_38 (fun r_38 w_38 hp => ?_) (fun _ _ h => h.elim)
        obtain ⟨rfl, rfl⟩ := hp
        refine z_weq (w' := [zH, zG _ _ _ _]) rfl ?_
        refine z_seq (S' := zi _ :: _) rfl ?_
        refine z_if_neB F (tgt := 46) dX6_cool_41 (by decide) (fun c_41 => ?_) (fun c_41 => ?_)
        · refine z_aload_n F dX6_cool_46 rfl ?_
          refine z_callV F (c_lists F1 _ _ _ n f h24 (by omega) f3.1 (fun k hk => f3.2.2 k (by omega))) 0 rfl (lw_V q1868 q1870 qs62 q117 q1871) (by decide +kernel) ⟨Nat.le_of_ble_eq_true rfl, Nat.le_of_ble_eq_true rfl⟩ ⟨by omega, by omega⟩ [0, 1] 2 ⟨rfl, rfl, rfl, ⟨Or.inl rfl, Or.inr rfl, trivial⟩⟩ (fun h => nomatch h) (Nat.le_of_ble_eq_true rfl) ⟨⟨Or.inr trivial, Or.inl rfl, trivial⟩, rfl, rfl, rfl, Nat.le_of_ble_eq_true rfl⟩ rfl zC6 (zat_G0 rfl) rfl dX6_cool_47 (fun r_47 w_47 hp => ?_) (fun _ _ h => h.elim)
          obtain ⟨rfl, A2, rfl, a1, a2⟩ := hp
          rw [hLe]
          refine z_weq (w' := [zH, zG _ _ _ _]) rfl ?_
          refine z_seq (S' := []) rfl ?_
          refine z_aload_n F dX6_cool_50 rfl ?_
          refine z_mi F rfl 20 rfl (Nat.le_of_ble_eq_true rfl) rfl q1500 dX6_cool_51 ?_
          refine z_ieq ((rfl : upd F1 20 (nI L) 20 = nI L)) ?_
          refine z_if_neN F (by omega) (tgt := 59) dX6_cool_54 (by decide) (fun c_54 => ?_) (fun c_54 => ?_)
          · refine z_aload_n F dX6_cool_59 rfl ?_
            refine z_iload_n F dX6_cool_60 rfl ?_
            refine z_pmi F rfl 34 rfl (Nat.le_of_ble_eq_true rfl) rfl q1514 rfl rfl rfl dX6_cool_61 ?_
            refine z_weq (w' := [_, _]) rfl ?_
            refine z_iload F dX6_cool_64 rfl ?_
            refine z_istore F dX6_cool_66 (Nat.le_of_ble_eq_true rfl) ?_
            refine z_leq (L' := [_, _, _, _, _, _, _, _, _, _, _, _, _, _, _]) rfl ?_
            refine z_iconst F (nI 0) dX6_cool_68 rfl ?_
            refine z_istore F dX6_cool_69 (Nat.le_of_ble_eq_true rfl) ?_
            refine z_leq (L' := [_, _, _, _, _, _, _, _, _, _, _, _, _, _, _]) rfl ?_
            refine z_iconst F (nI 0) dX6_cool_71 rfl ?_
            refine z_istore F dX6_cool_72 (Nat.le_of_ble_eq_true rfl) ?_
            refine z_leq (L' := [_, _, _, _, _, _, _, _, _, _, _, _, _, _, _]) rfl ?_
            exact loop (by omega) _ 0 (v0, f, 0) _ A2 (Nat.lt_succ_self _) (by omega) rfl f0 f3.1 f3.2.1 rfl rfl (frm_upd (frm_upd (f1.to (by decide)) (by decide)) (by decide)) (f2.tr a1 (by decide) (by decide)) a2 (fun k hk => (congrFun (a1.at 6 rfl) k).trans (f3.2.2 k hk))
          · refine z_iconst F (nI 0) dX6_cool_57 rfl ?_
            exact z_iret F E rfl dX6_cool_58 (by omega) (by omega) (⟨by rw [hco c_54], upd F1 20 (nI L), A2, rfl, f0, frm_upd (f1.to (by decide)) (by decide), f2.tr a1 (by decide) (by decide), by rw [hco c_54]; exact hs.to ((SltEq.of6 f2 (by decide)).tr (SltEq.of6 a1 (by decide))), fun i hi hne => (SltEq.of6 f2 (by decide)).tr (SltEq.of6 a1 (by decide))⟩)
        · cases c_41
theorem c_mcool_bad (F0 : Nat → Int32) (G : Nat → Int64) (A : Nat → Nat → Int32) (B : Nat → Nat → Int64) (j n d : Nat) (f : Nat → Int32) (v0 x y : Int32) (hj : j < 8) (h : nok n d f) (hs : Slt A j n (nI d) f) (hx : (inB x (nI 0) (nI 500) && inB y (nI 0) (nI 10000)) = false) :
    zCtr yX6_cool cX6_cool 15 (some .int) 5 0 0 [zr 1 0, zi (nI j), zi v0, zi x, zi y] [zH, zG F0 G A B] (fun r w => r = some (zi (nI 0)) ∧ ∃ F' A', w = [zH, zG F' G A' B] ∧ F' 0 = nI 2 ∧ frm [0, 4, 5] F0 F' ∧ frm [6] A A') zNx := by
  refine z_start (by decide) [some (zr 1 0), some (zi (nI j)), some (zi v0), some (zi x), some (zi y), none, none, none, none, none, none, none, none, none, none] rfl (fun _ => Nat.le_of_ble_eq_true rfl) (fun _ => rfl) (fun X F E hno hin => ?_)
  have h1 := h.n1
  refine z_aload_n F dX6_cool_0 rfl ?_
  refine z_iload_n F dX6_cool_1 rfl ?_
  refine z_callV F (c_lays_ok _ _ _ _ j n (nI d) f hj (by omega) h.n24 hs) 1 rfl (lw_V q1732 q1734 qs42 q117 q1735) (by decide +kernel) ⟨Nat.le_of_ble_eq_true rfl, Nat.le_of_ble_eq_true rfl⟩ ⟨by omega, by omega⟩ [0, 1] 2 ⟨rfl, rfl, rfl, ⟨Or.inl rfl, Or.inr rfl, trivial⟩⟩ (fun h => nomatch h) (Nat.le_of_ble_eq_true rfl) ⟨⟨Or.inr trivial, Or.inl rfl, trivial⟩, rfl, rfl, rfl, Nat.le_of_ble_eq_true rfl⟩ rfl zC6 (zat_G0 rfl) rfl dX6_cool_2 (fun r_2 w_2 hp => ?_) (fun _ _ h => h.elim)
  obtain ⟨rfl, F1, A1, rfl, f0, f1, f2, f3⟩ := hp
  refine z_weq (w' := [zH, zG _ _ _ _]) rfl ?_
  refine z_seq (S' := zi _ :: _) rfl ?_
  refine z_if_eqB F (tgt := 44) dX6_cool_5 (by decide) (fun c_5 => ?_) (fun c_5 => ?_)
  · cases c_5
  · refine z_aload_n F dX6_cool_8 rfl ?_
    refine z_iload_n F dX6_cool_9 rfl ?_
    refine z_iconst F (nI 0) dX6_cool_10 rfl ?_
    refine z_sipush F (nI 500) dX6_cool_11 rfl ?_
    refine z_callS F (c_within x (nI 0) (nI 500)) 3 rfl (lw_S q1717 q1718 q117 q1719) (by decide +kernel) ⟨Nat.le_of_ble_eq_true rfl, Nat.le_of_ble_eq_true rfl⟩ ⟨by omega, by omega⟩ [0] 2 ⟨rfl, rfl, rfl, ⟨Or.inl rfl, trivial⟩⟩ (fun h => nomatch h) (Nat.le_of_ble_eq_true rfl) ⟨⟨Or.inr trivial, Or.inr trivial, trivial⟩, rfl, rfl, rfl, Nat.le_of_ble_eq_true rfl⟩ rfl rfl dX6_cool_14 (fun r_14 w_14 hp => ?_) (fun _ _ h => h.elim)
    obtain ⟨rfl, rfl⟩ := hp
    refine z_weq (w' := [zH, zG _ _ _ _]) rfl ?_
    refine z_seq (S' := zi _ :: _) rfl ?_
    refine z_if_eqB F (tgt := 36) dX6_cool_17 (by decide) (fun c_17 => ?_) (fun c_17 => ?_)
    · refine z_iconstB F false dX6_cool_36 rfl ?_
      refine z_iconst F (nI 2) dX6_cool_37 rfl ?_
      refine z_callV F (c_right _ _ _ _ false 2 f0 (by omega) (by omega)) 2 rfl (lw_V q1736 q1738 qs43 q117 q1739) (by decide +kernel) ⟨Nat.le_of_ble_eq_true rfl, Nat.le_of_ble_eq_true rfl⟩ ⟨by omega, by omega⟩ [0, 1] 2 ⟨rfl, rfl, rfl, ⟨Or.inl rfl, Or.inr rfl, trivial⟩⟩ (fun h => nomatch h) (Nat.le_of_ble_eq_true rfl) ⟨⟨Or.inr trivial, Or.inl rfl, trivial⟩, rfl, rfl, rfl, Nat.le_of_ble_eq_true rfl⟩ rfl zC6 (zat_G0 rfl) rfl dX6_cool_38 (fun r_38 w_38 hp => ?_) (fun _ _ h => h.elim)
      obtain ⟨rfl, rfl⟩ := hp
      refine z_weq (w' := [zH, zG _ _ _ _]) rfl ?_
      refine z_seq (S' := zi _ :: _) rfl ?_
      refine z_if_neB F (tgt := 46) dX6_cool_41 (by decide) (fun c_41 => ?_) (fun c_41 => ?_)
      · cases c_41
      · refine z_iconst F (nI 0) dX6_cool_44 rfl ?_
        exact z_iret F E rfl dX6_cool_45 (by omega) (by omega) (⟨rfl, _, A1, rfl, rfl, frm_upd f1 (by decide), f2⟩)
    · refine z_iload F dX6_cool_20 rfl ?_
      refine z_iconst F (nI 0) dX6_cool_22 rfl ?_
      refine z_sipush F (nI 10000) dX6_cool_23 rfl ?_
      refine z_callS F (c_within y (nI 0) (nI 10000)) 3 rfl (lw_S q1717 q1718 q117 q1719) (by decide +kernel) ⟨Nat.le_of_ble_eq_true rfl, Nat.le_of_ble_eq_true rfl⟩ ⟨by omega, by omega⟩ [0] 2 ⟨rfl, rfl, rfl, ⟨Or.inl rfl, trivial⟩⟩ (fun h => nomatch h) (Nat.le_of_ble_eq_true rfl) ⟨⟨Or.inr trivial, Or.inr trivial, trivial⟩, rfl, rfl, rfl, Nat.le_of_ble_eq_true rfl⟩ rfl rfl dX6_cool_26 (fun r_26 w_26 hp => ?_) (fun _ _ h => h.elim)
      obtain ⟨rfl, rfl⟩ := hp
      refine z_weq (w' := [zH, zG _ _ _ _]) rfl ?_
      refine z_seq (S' := zi _ :: _) rfl ?_
      refine z_if_eqB F (tgt := 36) dX6_cool_29 (by decide) (fun c_29 => ?_) (fun c_29 => ?_)
      · refine z_iconstB F false dX6_cool_36 rfl ?_
        refine z_iconst F (nI 2) dX6_cool_37 rfl ?_
        refine z_callV F (c_right _ _ _ _ false 2 f0 (by omega) (by omega)) 2 rfl (lw_V q1736 q1738 qs43 q117 q1739) (by decide +kernel) ⟨Nat.le_of_ble_eq_true rfl, Nat.le_of_ble_eq_true rfl⟩ ⟨by omega, by omega⟩ [0, 1] 2 ⟨rfl, rfl, rfl, ⟨Or.inl rfl, Or.inr rfl, trivial⟩⟩ (fun h => nomatch h) (Nat.le_of_ble_eq_true rfl) ⟨⟨Or.inr trivial, Or.inl rfl, trivial⟩, rfl, rfl, rfl, Nat.le_of_ble_eq_true rfl⟩ rfl zC6 (zat_G0 rfl) rfl dX6_cool_38 (fun r_38 w_38 hp => ?_) (fun _ _ h => h.elim)
        obtain ⟨rfl, rfl⟩ := hp
        refine z_weq (w' := [zH, zG _ _ _ _]) rfl ?_
        refine z_seq (S' := zi _ :: _) rfl ?_
        refine z_if_neB F (tgt := 46) dX6_cool_41 (by decide) (fun c_41 => ?_) (fun c_41 => ?_)
        · cases c_41
        · refine z_iconst F (nI 0) dX6_cool_44 rfl ?_
          exact z_iret F E rfl dX6_cool_45 (by omega) (by omega) (⟨rfl, _, A1, rfl, rfl, frm_upd f1 (by decide), f2⟩)
      · rw [c_17, c_29] at hx; cases hx
end C59
