/-! grow: WiredNets -/
section C65
def fI (l : List (Nat × Nat)) (s : MS) : Int32 := match s with
  | none => -1
  | some q => nI (32 * la l q.1 + lb l q.1)
def sI (l : List (Nat × Nat)) (s : MS) : Int32 := match s with
  | none => -1
  | some q => nI (32 * la l q.2.1 + lb l q.2.1)
def gvI (s : MS) : Int32 := match s with
  | none => -1
  | some q => nI q.2.2
theorem gx_1 {l : List (Nat × Nat)} {s : MS} {a b v : Nat} (h : ∀ q, s = some q → la l q.1 < 32 ∧ lb l q.1 < 32) (e : fI l s = -1) : msx s a b v = some (a, b, v) := by
  cases s with
  | none => rfl
  | some q => have := h q rfl; exact absurd e (nI_ne (by omega))
theorem gx_2 {l : List (Nat × Nat)} {s : MS} {a b v : Nat} (e : ¬ fI l s = -1) (h : v < msV s) : msx s a b v = some (a, b, v) := by
  cases s with
  | none => rfl
  | some q => exact if_pos h
theorem gx_3 {l : List (Nat × Nat)} {s : MS} {a b v : Nat} (e : ¬ fI l s = -1) (h : msV s ≤ v) : msx s a b v = s := by
  cases s with
  | none => exact absurd rfl e
  | some q => exact if_neg (Nat.not_lt.mpr h)
set_option maxHeartbeats 8000000 in
theorem c_pgrow1 (P : zPt) (t : Nat) (fp sn0 g0 sm0 : Int32) (D : Nat → Int32) (j n d : Nat) (f : Nat → Int32) (hj : j < 8) (h : nok n d f) (hn : n < 24) (hP : P j = some (nI n, nI d, f)) : zCtr yX1_grow cX1_grow 13 (some .int) 8 6 160 [zr 1 0, zi (nI j), zi (nI 1)] (xFl P t fp sn0 g0 sm0 D) (fun r w => r = some (zi (gvI (ga1 n f (prs n f).length))) ∧ ∃ sn g sm D, ((ga1 n f (prs n f).length = none ∧ w = xFl P t fp sn g sm D) ∨ ∃ q y, ga1 n f (prs n f).length = some q ∧ (∀ k, k < 24 → y k = gw1 n f q.1 k) ∧ w = xFl (zput P j (some (nI (n + 1), nI (max d 2), y))) t fp sn g sm D)) zNx := by
  refine z_start (by decide) [some (zr 1 0), some (zi (nI j)), some (zi (nI 1)), none, none, none, none, none, none, none, none, none, none] rfl (fun _ => Nat.le_of_ble_eq_true rfl) (fun _ => rfl) (fun X F E hno hin => ?_)
  have h24 := h.n24
  have hd8 := h.d8
  have h96 := prs_96 h
  have hfz : ∀ k, n ≤ k → k < 24 → f k = nI 0 := fun k h1 h2 => h.zero h1 h2
  generalize hLe : (prs n f).length = L at *
  have hat : ∀ i, i < L → la (prs n f) i < lb (prs n f) i ∧ lb (prs n f) i < n := fun i hi => by
    have := prs_at (show i < (prs n f).length by omega)
    exact ⟨this.1, this.2.1⟩
  have hfb : ∀ s, gok n f false s → ∀ q, s = some q → la (prs n f) q.1 < 32 ∧ lb (prs n f) q.1 < 32 := fun s hs q hq => by
    have h1 := (hs q hq).1
    have := hat q.1 (by omega)
    omega
  have hvb : ∀ s, gok n f false s → msV s ≤ 1000000 := fun s hs => by
    cases s with
    | none => exact Nat.zero_le _
    | some q => exact (hs q rfl).2.2.1
  have hg1z : ∀ i, i < L → ∀ (y : Nat → Int32), (∀ k, k < 24 → y k = gw1 n f i k) → ∀ k, n < k → k < 24 → y k = nI 0 := fun i hi y hy k h1 h2 => by
    have := hat i hi
    rw [hy k h2]
    unfold gw1 gr1 jn pt
    simp only [upd_at]
    rw [if_neg (by omega), if_neg (by omega), if_neg (by omega), if_neg (by omega), if_neg (by omega), if_neg (by omega)]
    exact hfz k (by omega) h2
  have J : ∀ (sn g sm : Int32) (D y : Nat → Int32), (∀ k, n < k → k < 24 → y k = nI 0) → Z X [some (zr 1 0), some (zi (nI j)), some (zi (nI 1)), some (zr 22 0), some (zr 24 0), some (zr 25 0), some (zi (fI (prs n f) (ga1 n f L))), some (zi (-1)), some (zi (nI (msV (ga1 n f L)))), some (zi (nI L)), none, none, none] [] [zPl (zput (pR P) j (zr 22 0)) (zput P j none), xO t fp, zH, eFl 4 sn g sm, zAi 0 24 D, zH, zH, zH, zH, zH, zH, zH, zH, zH, zH, zH, zH, zH, zH, zH, zH, zH, zO 5 [zi (nI n), zi (nI d), zr 23 0], zAi 0 24 f, zAi 0 L (rowA (prs n f) (fun _ => 0)), zO 5 [zi (nI (n + 1)), zi (nI (max d 2)), zr 26 0], zAi 0 24 y] 5 139 202 := by
    intro sn g sm D y hy
    have hok := ga1_ok (f := f) hn L (by omega)
    rcases hq : ga1 n f L with _ | q
    ·
      refine z_iload F dX1_grow_202 rfl ?_
      refine z_iconst F (-1) dX1_grow_204 rfl ?_
      refine z_icmp_ne F (tgt := 210) dX1_grow_205 (by decide) (fun c_205 => ?_) (fun c_205 => ?_)
      · exact absurd rfl c_205
      · refine z_iconst F (-1) dX1_grow_208 rfl ?_
        refine z_loc [some _, some _, some _, none, none, none, some _, some _, some _, some _, none, none, none] ⟨rfl, rfl, rfl, rfl, rfl, rfl, rfl, trivial⟩ ?_
        refine z_unfocus F rfl j 22 23 22 hj zput_self rfl rfl (Nat.le_of_ble_eq_true rfl) (Nat.le_of_ble_eq_true rfl) (Nat.le_of_ble_eq_true rfl) (Nat.le_of_ble_eq_true rfl) [zO _ [zr _ _, zr _ _, zr _ _, zr _ _, zr _ _, zi _, zi _, zr _ _, zr _ _], zH, zO _ [zr _ _, zi _, zi _, zi _], zAi 0 24 _, zH, zH, zH, zH, zH, zH, zH, zH, zH, zH, zH, zH, zH, zH, zH, zH, zH] rfl ⟨rfl, trivial, rfl, trivial, trivial, trivial, trivial, trivial, trivial, trivial, trivial, trivial, trivial, trivial, trivial, trivial, trivial, trivial, trivial, trivial, trivial, trivial⟩ uOK rfl rfl ?_
        refine z_weq (w' := zPl (pR (zput P j (some _))) (zput P j (some _)) :: _) (congrArg (fun z => z :: _) uPl2) ?_
        exact z_iret F E rfl dX1_grow_209 (by omega) (by omega) (⟨by rw [hq]; rfl, sn, g, sm, D, Or.inl ⟨hq, by rw [zput_some hP]⟩⟩)
    · obtain ⟨q1, q2, q3, q4⟩ := hok q hq
      have a1 := hat q.1 (by omega)
      have a2 := hat q.2.1 (by omega)
      refine z_leq (L' := [some (zr 1 0), some (zi (nI j)), some (zi (nI 1)), some (zr 22 0), some (zr 24 0), some (zr 25 0), some (zi (nI (32 * la (prs n f) q.1 + lb (prs n f) q.1))), some (zi (-1)), some (zi (nI q.2.2)), some (zi (nI L)), none, none, none]) rfl ?_
      refine z_iload F dX1_grow_202 rfl ?_
      refine z_iconst F (-1) dX1_grow_204 rfl ?_
      refine z_icmp_ne F (tgt := 210) dX1_grow_205 (by decide) (fun c_205 => ?_) (fun c_205 => ?_)
      · refine z_aload F dX1_grow_210 rfl ?_
        refine z_aload_n F dX1_grow_212 rfl ?_
        refine z_iload F dX1_grow_213 rfl ?_
        refine z_iload F dX1_grow_215 rfl ?_
        refine z_callS F (c_grows1 n (n + 1) (nI d) (nI (max d 2)) f _ (la (prs n f) q.1) (lb (prs n f) q.1) hn (by omega) a1.2 (by omega) hfz hy) 4 rfl (lw_S q1456 q1457 q109 q1458) (by decide +kernel) ⟨Nat.le_of_ble_eq_true rfl, Nat.le_of_ble_eq_true rfl⟩ ⟨by omega, by omega⟩ [0, 25, 26, 22, 23] 27 ⟨rfl, rfl, rfl, ⟨Or.inl rfl, Or.inr rfl, Or.inr rfl, Or.inr rfl, Or.inr rfl, trivial⟩⟩ (fun h => nomatch h) (Nat.le_of_ble_eq_true rfl) ⟨⟨Or.inr (by first | exact ⟨rfl, pR_B _ (by decide)⟩ | exact ⟨rfl, uR_B (by decide) (by decide)⟩), Or.inr rfl, Or.inr trivial, Or.inr rfl, Or.inr trivial, Or.inr trivial, Or.inr trivial, Or.inr trivial, Or.inr trivial, Or.inr trivial, Or.inr trivial, Or.inr trivial, Or.inr trivial, Or.inr trivial, Or.inr trivial, Or.inr trivial, Or.inr trivial, Or.inr trivial, Or.inr trivial, Or.inr trivial, Or.inr trivial, Or.inr trivial, Or.inl rfl, Or.inl rfl, Or.inr trivial, Or.inl rfl, Or.inl rfl, trivial⟩, rfl, rfl, rfl, Nat.le_of_ble_eq_true rfl⟩ rfl rfl dX1_grow_217 (fun r_217 w_217 hp => ?_) (fun _ _ h => h.elim)
        obtain ⟨rfl, y2, rfl, hy2⟩ := hp
        refine z_weq (w' := [zPl _ _, zO _ [zr _ _, zr _ _, zr _ _, zr _ _, zr _ _, zi _, zi _, zr _ _, zr _ _], zH, zO _ [zr _ _, zi _, zi _, zi _], zAi 0 24 _, zH, zH, zH, zH, zH, zH, zH, zH, zH, zH, zH, zH, zH, zH, zH, zH, zH, zO _ [zi _, zi _, zr _ _], zAi 0 24 _, zAi 0 L _, zO _ [zi _, zi _, zr _ _], zAi 0 24 _]) rfl ?_
        refine z_seq (S' := zi _ :: _) rfl ?_
        refine z_pop F dX1_grow_220 rfl ?_
        refine z_unfocusH F rfl j 22 23 hj zput_self rfl rfl (Nat.le_of_ble_eq_true rfl) (Nat.le_of_ble_eq_true rfl) [zO _ [zr _ _, zr _ _, zr _ _, zr _ _, zr _ _, zi _, zi _, zr _ _, zr _ _], zH, zO _ [zr _ _, zi _, zi _, zi _], zAi 0 24 _, zH, zH, zH, zH, zH, zH, zH, zH, zH, zH, zH, zH, zH, zH, zH, zH, zH, zH, zH, zAi 0 L _, zO _ [zi _, zi _, zr _ _], zAi 0 24 _] rfl ⟨Nat.le_of_ble_eq_true rfl, Nat.le_of_ble_eq_true rfl⟩ ⟨rfl, trivial, rfl, trivial, trivial, trivial, trivial, trivial, trivial, trivial, trivial, trivial, trivial, trivial, trivial, trivial, trivial, trivial, trivial, trivial, trivial, trivial, trivial, trivial, rfl, trivial, trivial⟩ uOV rfl rfl ?_
        refine z_weq (w' := zPl (pR P) P :: _) (congrArg (fun z => z :: _) (uPl3 hP)) ?_
        refine z_aload_n F dX1_grow_221 rfl ?_
        refine z_get F zC1 (f := 0) rfl (Nat.le_of_ble_eq_true rfl) q313 rfl dX1_grow_222 ?_
        refine z_iload_n F dX1_grow_225 rfl ?_
        refine z_aload F dX1_grow_226 rfl ?_
        refine z_aastP F (by omega) rfl dX1_grow_228 ?_
        refine z_weq (w' := [_, _, _, _, _, _, _, _, _, _, _, _, _, _, _, _, _, _, _, _, _, _, _, _, _, _, _]) rfl ?_
        refine z_loc [some _, some _, some _, none, none, none, some _, some _, some _, some _, none, none, none] ⟨rfl, rfl, rfl, rfl, rfl, rfl, rfl, trivial⟩ ?_
        refine z_unfocus F rfl j 25 26 22 hj zput_self rfl rfl (Nat.le_of_ble_eq_true rfl) (Nat.le_of_ble_eq_true rfl) (Nat.le_of_ble_eq_true rfl) (Nat.le_of_ble_eq_true rfl) [zO _ [zr _ _, zr _ _, zr _ _, zr _ _, zr _ _, zi _, zi _, zr _ _, zr _ _], zH, zO _ [zr _ _, zi _, zi _, zi _], zAi 0 24 _, zH, zH, zH, zH, zH, zH, zH, zH, zH, zH, zH, zH, zH, zH, zH, zH, zH] rfl ⟨rfl, trivial, rfl, trivial, trivial, trivial, trivial, trivial, trivial, trivial, trivial, trivial, trivial, trivial, trivial, trivial, trivial, trivial, trivial, trivial, trivial, trivial⟩ uOK rfl rfl ?_
        refine z_weq (w' := zPl (pR (zput P j (some _))) (zput P j (some _)) :: _) (congrArg (fun z => z :: _) uPl1) ?_
        refine z_iload F dX1_grow_229 rfl ?_
        exact z_iret F E rfl dX1_grow_231 (by omega) (by omega) (⟨by rw [hq]; rfl, sn, g, sm, D, Or.inr ⟨q, y2, hq, hy2, rfl⟩⟩)
      · exact absurd c_205 (nI_ne (by omega))
  have loop : ∀ (m i : Nat) (sn g sm : Int32) (D y : Nat → Int32), L - i < m → i ≤ L → (∀ k, n < k → k < 24 → y k = nI 0) → Z X [some (zr 1 0), some (zi (nI j)), some (zi (nI 1)), some (zr 22 0), some (zr 24 0), some (zr 25 0), some (zi (fI (prs n f) (ga1 n f i))), some (zi (-1)), some (zi (nI (msV (ga1 n f i)))), some (zi (nI i)), none, none, none] [] [zPl (zput (pR P) j (zr 22 0)) (zput P j none), xO t fp, zH, eFl 4 sn g sm, zAi 0 24 D, zH, zH, zH, zH, zH, zH, zH, zH, zH, zH, zH, zH, zH, zH, zH, zH, zH, zO 5 [zi (nI n), zi (nI d), zr 23 0], zAi 0 24 f, zAi 0 L (rowA (prs n f) (fun _ => 0)), zO 5 [zi (nI (n + 1)), zi (nI (max d 2)), zr 26 0], zAi 0 24 y] 5 139 78 := by
    intro m
    induction m with
    | zero => intro i sn g sm D y hm; omega
    | succ m ih =>
      intro i sn g sm D y hm hi hy
      have hok := ga1_ok (f := f) hn i (by omega)
      have hvl := hvb _ hok
      have K2 : ∀ (s : MS) (sn g sm : Int32) (D y : Nat → Int32), i < L → s = ga1 n f (i + 1) → (∀ k, n < k → k < 24 → y k = nI 0) → Z X [some (zr 1 0), some (zi (nI j)), some (zi (nI 1)), some (zr 22 0), some (zr 24 0), some (zr 25 0), some (zi (fI (prs n f) (s))), some (zi (-1)), some (zi (nI (msV (s)))), some (zi (nI i)), some (zi (nI (L - 1 + 1))), none, none] [] [zPl (zput (pR P) j (zr 22 0)) (zput P j none), xO t fp, zH, eFl 4 sn g sm, zAi 0 24 D, zH, zH, zH, zH, zH, zH, zH, zH, zH, zH, zH, zH, zH, zH, zH, zH, zH, zO 5 [zi (nI n), zi (nI d), zr 23 0], zAi 0 24 f, zAi 0 L (rowA (prs n f) (fun _ => 0)), zO 5 [zi (nI (n + 1)), zi (nI (max d 2)), zr 26 0], zAi 0 24 y] 5 139 105 := by
        intro s sn g sm D y hlt hs hy
        subst hs
        refine z_iload F dX1_grow_105 rfl ?_
        refine z_aload F dX1_grow_107 rfl ?_
        refine z_alenN F (fun _ => rfl) rfl dX1_grow_109 ?_
        refine z_icmp_geN F (by omega) (by omega) (tgt := 196) dX1_grow_110 (by decide) (fun c_110 => ?_) (fun c_110 => ?_)
        · refine z_iincN F 1 dX1_grow_196 rfl rfl ?_
          refine z_leq (L' := [_, _, _, _, _, _, _, _, _, _, _, _, _]) rfl ?_
          refine z_goto F (tgt := 78) dX1_grow_199 (by decide) ?_
          refine z_loc _ ?_ (ih (i + 1) sn g sm D y (by omega) (by omega) hy)
          exact ⟨rfl, rfl, rfl, rfl, rfl, rfl, rfl, rfl, rfl, rfl, trivial⟩
        · exact absurd c_110 (by omega)
      have K1 : i < L → Z X [some (zr 1 0), some (zi (nI j)), some (zi (nI 1)), some (zr 22 0), some (zr 24 0), some (zr 25 0), some (zi (fI (prs n f) (ga1 n f i))), some (zi (-1)), some (zi (nI (msV (ga1 n f i)))), some (zi (nI i)), some (zi (nI (L - 1))), none, none] [] [zPl (zput (pR P) j (zr 22 0)) (zput P j none), xO t fp, zH, eFl 4 sn g sm, zAi 0 24 D, zH, zH, zH, zH, zH, zH, zH, zH, zH, zH, zH, zH, zH, zH, zH, zH, zH, zO 5 [zi (nI n), zi (nI d), zr 23 0], zAi 0 24 f, zAi 0 L (rowA (prs n f) (fun _ => 0)), zO 5 [zi (nI (n + 1)), zi (nI (max d 2)), zr 26 0], zAi 0 24 y] 5 139 105 := by
        intro hlt
        have a1 := hat i hlt
        have hcb := fun y => cpr_bd (n := n + 1) y (by omega)
        refine z_iload F dX1_grow_105 rfl ?_
        refine z_aload F dX1_grow_107 rfl ?_
        refine z_alenN F (fun _ => rfl) rfl dX1_grow_109 ?_
        refine z_icmp_geN F (by omega) (by omega) (tgt := 196) dX1_grow_110 (by decide) (fun c_110 => ?_) (fun c_110 => ?_)
        · exact absurd c_110 (by omega)
        · refine z_iload_n F dX1_grow_113 rfl ?_
          refine z_iconst F (nI 1) dX1_grow_114 rfl ?_
          refine z_icmp_neN F (by omega) (by omega) (tgt := 122) dX1_grow_115 (by decide) (fun c_115 => ?_) (fun c_115 => ?_)
          · exact absurd c_115 (by omega)
          · refine z_iconst F (-1) dX1_grow_118 rfl ?_
            refine z_goto F (tgt := 127) dX1_grow_119 (by decide) ?_
            refine z_istore F dX1_grow_127 (Nat.le_of_ble_eq_true rfl) ?_
            refine z_leq (L' := [_, _, _, _, _, _, _, _, _, _, _, _, _]) rfl ?_
            refine z_aload F dX1_grow_129 rfl ?_
            refine z_aload_n F dX1_grow_131 rfl ?_
            refine z_aload F dX1_grow_132 rfl ?_
            refine z_iload F dX1_grow_134 rfl ?_
            refine z_ialdN F rfl (by omega) (by omega) rfl dX1_grow_136 ?_
            refine z_ieq (rw1 (by omega)) ?_
            refine z_iload F dX1_grow_137 rfl ?_
            refine z_callS F (c_grows1 n (n + 1) (nI d) (nI (max d 2)) f _ (la (prs n f) i) (lb (prs n f) i) hn (by omega) a1.2 (by omega) hfz hy) 4 rfl (lw_S q1456 q1457 q109 q1458) (by decide +kernel) ⟨Nat.le_of_ble_eq_true rfl, Nat.le_of_ble_eq_true rfl⟩ ⟨by omega, by omega⟩ [0, 25, 26, 22, 23] 27 ⟨rfl, rfl, rfl, ⟨Or.inl rfl, Or.inr rfl, Or.inr rfl, Or.inr rfl, Or.inr rfl, trivial⟩⟩ (fun h => nomatch h) (Nat.le_of_ble_eq_true rfl) ⟨⟨Or.inr (by first | exact ⟨rfl, pR_B _ (by decide)⟩ | exact ⟨rfl, uR_B (by decide) (by decide)⟩), Or.inr rfl, Or.inr trivial, Or.inr rfl, Or.inr trivial, Or.inr trivial, Or.inr trivial, Or.inr trivial, Or.inr trivial, Or.inr trivial, Or.inr trivial, Or.inr trivial, Or.inr trivial, Or.inr trivial, Or.inr trivial, Or.inr trivial, Or.inr trivial, Or.inr trivial, Or.inr trivial, Or.inr trivial, Or.inr trivial, Or.inr trivial, Or.inl rfl, Or.inl rfl, Or.inr trivial, Or.inl rfl, Or.inl rfl, trivial⟩, rfl, rfl, rfl, Nat.le_of_ble_eq_true rfl⟩ rfl rfl dX1_grow_139 (fun r_139 w_139 hp => ?_) (fun _ _ h => h.elim)
            obtain ⟨rfl, y2, rfl, hy2⟩ := hp
            have hyz := hg1z i hlt y2 hy2
            have hce := cpr_cong (n := n + 1) (f := y2) (g := gw1 n f i) (fun k hk => hy2 k (by omega))
            have hcv := hcb y2
            refine z_weq (w' := [zPl _ _, zO _ [zr _ _, zr _ _, zr _ _, zr _ _, zr _ _, zi _, zi _, zr _ _, zr _ _], zH, zO _ [zr _ _, zi _, zi _, zi _], zAi 0 24 _, zH, zH, zH, zH, zH, zH, zH, zH, zH, zH, zH, zH, zH, zH, zH, zH, zH, zO _ [zi _, zi _, zr _ _], zAi 0 24 _, zAi 0 L _, zO _ [zi _, zi _, zr _ _], zAi 0 24 _]) rfl ?_
            refine z_seq (S' := zi _ :: _) rfl ?_
            refine z_if_neB F (tgt := 148) dX1_grow_142 (by decide) (fun c_142 => ?_) (fun c_142 => ?_)
            · refine z_aload_n F dX1_grow_148 rfl ?_
              refine z_get F zC1 (f := 2) rfl (Nat.le_of_ble_eq_true rfl) q316 rfl dX1_grow_149 ?_
              refine z_aload F dX1_grow_152 rfl ?_
              refine z_callV F (c_price (n + 1) (nI (max d 2)) y2 _ _ _ _ (by omega)) 1 rfl (lw_V q862 q863 q864 q110 q865) (by decide +kernel) ⟨Nat.le_of_ble_eq_true rfl, Nat.le_of_ble_eq_true rfl⟩ ⟨by omega, by omega⟩ [0, 3, 4, 25, 26] 27 ⟨rfl, rfl, rfl, ⟨Or.inl rfl, Or.inr rfl, Or.inr rfl, Or.inr rfl, Or.inr rfl, trivial⟩⟩ (fun h => nomatch h) (Nat.le_of_ble_eq_true rfl) ⟨⟨Or.inr (by first | exact ⟨rfl, pR_B _ (by decide)⟩ | exact ⟨rfl, uR_B (by decide) (by decide)⟩), Or.inr rfl, Or.inr trivial, Or.inl rfl, Or.inl rfl, Or.inr trivial, Or.inr trivial, Or.inr trivial, Or.inr trivial, Or.inr trivial, Or.inr trivial, Or.inr trivial, Or.inr trivial, Or.inr trivial, Or.inr trivial, Or.inr trivial, Or.inr trivial, Or.inr trivial, Or.inr trivial, Or.inr trivial, Or.inr trivial, Or.inr trivial, Or.inr rfl, Or.inr trivial, Or.inr trivial, Or.inl rfl, Or.inl rfl, trivial⟩, rfl, rfl, rfl, Nat.le_of_ble_eq_true rfl⟩ rfl zC2 rfl rfl dX1_grow_154 (fun r_154 w_154 hp => ?_) (fun _ _ h => h.elim)
              obtain ⟨rfl, sn1, g1', sm1, D1, rfl⟩ := hp
              refine z_weq (w' := [zPl _ _, zO _ [zr _ _, zr _ _, zr _ _, zr _ _, zr _ _, zi _, zi _, zr _ _, zr _ _], zH, zO _ [zr _ _, zi _, zi _, zi _], zAi 0 24 _, zH, zH, zH, zH, zH, zH, zH, zH, zH, zH, zH, zH, zH, zH, zH, zH, zH, zO _ [zi _, zi _, zr _ _], zAi 0 24 _, zAi 0 L _, zO _ [zi _, zi _, zr _ _], zAi 0 24 _]) rfl ?_
              refine z_seq (S' := zi _ :: _) rfl ?_
              refine z_istore F dX1_grow_157 (Nat.le_of_ble_eq_true rfl) ?_
              refine z_leq (L' := [_, _, _, _, _, _, _, _, _, _, _, _, _]) rfl ?_
              refine z_iload F dX1_grow_159 rfl ?_
              refine z_iconst F (-1) dX1_grow_161 rfl ?_
              refine z_icmp_eq F (tgt := 175) dX1_grow_162 (by decide) (fun c_162 => ?_) (fun c_162 => ?_)
              · refine z_aload F dX1_grow_175 rfl ?_
                refine z_iload F dX1_grow_177 rfl ?_
                refine z_ialdN F rfl (by omega) (by omega) rfl dX1_grow_179 ?_
                refine z_ieq (rw1 (by omega)) ?_
                refine z_istore F dX1_grow_180 (Nat.le_of_ble_eq_true rfl) ?_
                refine z_leq (L' := [_, _, _, _, _, _, _, _, _, _, _, _, _]) rfl ?_
                refine z_iload F dX1_grow_182 rfl ?_
                refine z_istore F dX1_grow_184 (Nat.le_of_ble_eq_true rfl) ?_
                refine z_leq (L' := [_, _, _, _, _, _, _, _, _, _, _, _, _]) rfl ?_
                refine z_iload F dX1_grow_186 rfl ?_
                refine z_istore F dX1_grow_188 (Nat.le_of_ble_eq_true rfl) ?_
                refine z_leq (L' := [_, _, _, _, _, _, _, _, _, _, _, _, _]) rfl ?_
                refine z_iincN F 1 dX1_grow_190 rfl rfl ?_
                refine z_leq (L' := [_, _, _, _, _, _, _, _, _, _, _, _, _]) rfl ?_
                refine z_goto F (tgt := 105) dX1_grow_193 (by decide) ?_
                refine z_loc _ ?_ (K2 (some (i, 0, cpr (n + 1) y2)) sn1 g1' sm1 D1 y2 hlt (by rw [ga1, ← hce, gx_1 (hfb _ hok) c_162]) hyz)
                exact ⟨rfl, rfl, rfl, rfl, rfl, rfl, rfl, rfl, rfl, rfl, rfl, trivial⟩
              · refine z_iload F dX1_grow_165 rfl ?_
                refine z_iload F dX1_grow_167 rfl ?_
                refine z_icmp_ltN F (by omega) (by omega) (tgt := 175) dX1_grow_169 (by decide) (fun c_169 => ?_) (fun c_169 => ?_)
                · refine z_aload F dX1_grow_175 rfl ?_
                  refine z_iload F dX1_grow_177 rfl ?_
                  refine z_ialdN F rfl (by omega) (by omega) rfl dX1_grow_179 ?_
                  refine z_ieq (rw1 (by omega)) ?_
                  refine z_istore F dX1_grow_180 (Nat.le_of_ble_eq_true rfl) ?_
                  refine z_leq (L' := [_, _, _, _, _, _, _, _, _, _, _, _, _]) rfl ?_
                  refine z_iload F dX1_grow_182 rfl ?_
                  refine z_istore F dX1_grow_184 (Nat.le_of_ble_eq_true rfl) ?_
                  refine z_leq (L' := [_, _, _, _, _, _, _, _, _, _, _, _, _]) rfl ?_
                  refine z_iload F dX1_grow_186 rfl ?_
                  refine z_istore F dX1_grow_188 (Nat.le_of_ble_eq_true rfl) ?_
                  refine z_leq (L' := [_, _, _, _, _, _, _, _, _, _, _, _, _]) rfl ?_
                  refine z_iincN F 1 dX1_grow_190 rfl rfl ?_
                  refine z_leq (L' := [_, _, _, _, _, _, _, _, _, _, _, _, _]) rfl ?_
                  refine z_goto F (tgt := 105) dX1_grow_193 (by decide) ?_
                  refine z_loc _ ?_ (K2 (some (i, 0, cpr (n + 1) y2)) sn1 g1' sm1 D1 y2 hlt (by rw [ga1, ← hce, gx_2 c_162 c_169]) hyz)
                  exact ⟨rfl, rfl, rfl, rfl, rfl, rfl, rfl, rfl, rfl, rfl, rfl, trivial⟩
                · refine z_goto F (tgt := 190) dX1_grow_172 (by decide) ?_
                  refine z_iincN F 1 dX1_grow_190 rfl rfl ?_
                  refine z_leq (L' := [_, _, _, _, _, _, _, _, _, _, _, _, _]) rfl ?_
                  refine z_goto F (tgt := 105) dX1_grow_193 (by decide) ?_
                  refine z_loc _ ?_ (K2 (ga1 n f i) sn1 g1' sm1 D1 y2 hlt (by rw [ga1, ← hce, gx_3 c_162 c_169]) hyz)
                  exact ⟨rfl, rfl, rfl, rfl, rfl, rfl, rfl, rfl, rfl, rfl, rfl, trivial⟩
            · cases c_142
      refine z_iload F dX1_grow_78 rfl ?_
      refine z_aload F dX1_grow_80 rfl ?_
      refine z_alenN F (fun _ => rfl) rfl dX1_grow_82 ?_
      refine z_icmp_geN F (by omega) (by omega) (tgt := 202) dX1_grow_83 (by decide) (fun c_83 => ?_) (fun c_83 => ?_)
      · have ei : i = L := by omega
        subst ei
        exact J sn g sm D y hy
      · refine z_iload_n F dX1_grow_86 rfl ?_
        refine z_iconst F (nI 1) dX1_grow_87 rfl ?_
        refine z_icmp_neN F (by omega) (by omega) (tgt := 99) dX1_grow_88 (by decide) (fun c_88 => ?_) (fun c_88 => ?_)
        · exact absurd c_88 (by omega)
        · refine z_aload F dX1_grow_91 rfl ?_
          refine z_alenN F (fun _ => rfl) rfl dX1_grow_93 ?_
          refine z_iconst F (nI 1) dX1_grow_94 rfl ?_
          refine z_isubN F (by omega) dX1_grow_95 ?_
          refine z_goto F (tgt := 103) dX1_grow_96 (by decide) ?_
          refine z_istore F dX1_grow_103 (Nat.le_of_ble_eq_true rfl) ?_
          refine z_leq (L' := [_, _, _, _, _, _, _, _, _, _, _, _, _]) rfl ?_
          exact K1 (by omega)
  refine z_aload_n F dX1_grow_0 rfl ?_
  refine z_iload_n F dX1_grow_1 rfl ?_
  refine z_callV F (c_netAt_ok P t fp j hj hP) 1 rfl (lw_V q429 q431 qs0 q109 q432) (by decide +kernel) ⟨Nat.le_of_ble_eq_true rfl, Nat.le_of_ble_eq_true rfl⟩ ⟨by omega, by omega⟩ [0, 1, 2, 3, 4, 5, 6, 7, 8, 9, 10, 11, 12, 13, 14, 15, 16, 17, 18, 19, 20, 21] 22 ⟨rfl, rfl, rfl, ⟨Or.inr (congrArg some (zrnP rfl).symm), Or.inr rfl, Or.inl rfl, Or.inl rfl, Or.inl rfl, Or.inl rfl, Or.inl rfl, Or.inl rfl, Or.inl rfl, Or.inl rfl, Or.inl rfl, Or.inl rfl, Or.inl rfl, Or.inl rfl, Or.inl rfl, Or.inl rfl, Or.inl rfl, Or.inl rfl, Or.inl rfl, Or.inl rfl, Or.inl rfl, Or.inl rfl, trivial⟩⟩ (fun _ => rfl) (Nat.le_of_ble_eq_true rfl) ⟨⟨Or.inl rfl, Or.inl rfl, Or.inr trivial, Or.inr rfl, Or.inr trivial, Or.inr trivial, Or.inr trivial, Or.inr trivial, Or.inr trivial, Or.inr trivial, Or.inr trivial, Or.inr trivial, Or.inr trivial, Or.inr trivial, Or.inr trivial, Or.inr trivial, Or.inr trivial, Or.inr trivial, Or.inr trivial, Or.inr trivial, Or.inr trivial, Or.inr trivial, trivial⟩, rfl, rfl, rfl, Nat.le_of_ble_eq_true rfl⟩ rfl zC1 rfl rfl dX1_grow_2 (fun r_2 w_2 hp => ?_) (fun _ _ h => h.elim)
  obtain ⟨rfl, rfl⟩ := hp
  refine z_weq (w' := zPl (pR _) _ :: _) (congrArg (fun z => z :: _) (zrnP rfl)) ?_
  refine z_weq (w' := [zPl _ _, zO _ [zr _ _, zr _ _, zr _ _, zr _ _, zr _ _, zi _, zi _, zr _ _, zr _ _], zH, zO _ [zr _ _, zi _, zi _, zi _], zAi 0 24 _, zH, zH, zH, zH, zH, zH, zH, zH, zH, zH, zH, zH, zH, zH, zH, zH, zH]) rfl ?_
  refine z_seq (S' := zr _ _ :: _) rfl ?_
  refine z_astore_n F dX1_grow_5 (Nat.le_of_ble_eq_true rfl) ?_
  refine z_leq (L' := [_, _, _, _, _, _, _, _, _, _, _, _, _]) rfl ?_
  refine z_foc F j hj hP (N := 22) (M := 23) (L' := [_, _, _, some (zr 22 0), _, _, _, _, _, _, _, _, _]) (S' := []) rfl rfl (Nat.le_of_ble_eq_true rfl) ⟨rfl, trivial, rfl, trivial, trivial, trivial, trivial, trivial, trivial, trivial, trivial, trivial, trivial, trivial, trivial, trivial, trivial, trivial, trivial, trivial, trivial, trivial⟩ ⟨Or.inl rfl, Or.inl rfl, Or.inl rfl, Or.inr ⟨rfl, rfl⟩, Or.inl rfl, Or.inl rfl, Or.inl rfl, Or.inl rfl, Or.inl rfl, Or.inl rfl, Or.inl rfl, Or.inl rfl, Or.inl rfl, trivial⟩ rfl trivial rfl ?_
  refine z_weq (w' := [zPl _ _, zO _ [zr _ _, zr _ _, zr _ _, zr _ _, zr _ _, zi _, zi _, zr _ _, zr _ _], zH, zO _ [zr _ _, zi _, zi _, zi _], zAi 0 24 _, zH, zH, zH, zH, zH, zH, zH, zH, zH, zH, zH, zH, zH, zH, zH, zH, zH, zO _ [zi _, zi _, zr _ _], zAi 0 24 _]) rfl ?_
  refine z_iload_n F dX1_grow_6 rfl ?_
  refine z_iconst F (nI 1) dX1_grow_7 rfl ?_
  refine z_icmp_eqN F (by omega) (by omega) (tgt := 16) dX1_grow_8 (by decide) (fun c_8 => ?_) (fun c_8 => ?_)
  · refine z_iconstB F true dX1_grow_16 rfl ?_
    refine z_goto F (tgt := 21) dX1_grow_17 (by decide) ?_
    refine z_callS F (c_rgt true) 1 rfl (lw_S q538 q539 q109 q540) (by decide +kernel) ⟨Nat.le_of_ble_eq_true rfl, Nat.le_of_ble_eq_true rfl⟩ ⟨by omega, by omega⟩ [0] 24 ⟨rfl, rfl, rfl, ⟨Or.inl rfl, trivial⟩⟩ (fun h => nomatch h) (Nat.le_of_ble_eq_true rfl) ⟨⟨Or.inr (by first | exact ⟨rfl, pR_B _ (by decide)⟩ | exact ⟨rfl, uR_B (by decide) (by decide)⟩), Or.inr rfl, Or.inr trivial, Or.inr rfl, Or.inr trivial, Or.inr trivial, Or.inr trivial, Or.inr trivial, Or.inr trivial, Or.inr trivial, Or.inr trivial, Or.inr trivial, Or.inr trivial, Or.inr trivial, Or.inr trivial, Or.inr trivial, Or.inr trivial, Or.inr trivial, Or.inr trivial, Or.inr trivial, Or.inr trivial, Or.inr trivial, Or.inr rfl, Or.inr trivial, trivial⟩, rfl, rfl, rfl, Nat.le_of_ble_eq_true rfl⟩ rfl rfl dX1_grow_21 (fun r_21 w_21 hp => ?_) (fun E_ w_ hx => by obtain ⟨-, hb, -⟩ := hx; cases hb)
    obtain ⟨rfl, -, rfl⟩ := hp
    refine z_weq (w' := [zPl _ _, zO _ [zr _ _, zr _ _, zr _ _, zr _ _, zr _ _, zi _, zi _, zr _ _, zr _ _], zH, zO _ [zr _ _, zi _, zi _, zi _], zAi 0 24 _, zH, zH, zH, zH, zH, zH, zH, zH, zH, zH, zH, zH, zH, zH, zH, zH, zH, zO _ [zi _, zi _, zr _ _], zAi 0 24 _]) rfl ?_
    refine z_seq (S' := []) rfl ?_
    refine z_aload_n F dX1_grow_24 rfl ?_
    refine z_getN F zC5 (f := 0) rfl (Nat.le_of_ble_eq_true rfl) q245 rfl dX1_grow_25 ?_
    refine z_bipush F (nI 24) dX1_grow_28 rfl ?_
    refine z_icmp_neN F (by omega) (by omega) (tgt := 35) dX1_grow_30 (by decide) (fun c_30 => ?_) (fun c_30 => ?_)
    · refine z_aload_n F dX1_grow_35 rfl ?_
      refine z_callV F (c_row n (nI d) f h.sy (by omega)) 0 rfl (lw_V q779 q780 q781 q116 q782) (by decide +kernel) ⟨Nat.le_of_ble_eq_true rfl, Nat.le_of_ble_eq_true rfl⟩ ⟨by omega, by omega⟩ [0, 22, 23] 24 ⟨rfl, rfl, rfl, ⟨Or.inl rfl, Or.inr rfl, Or.inr rfl, trivial⟩⟩ (fun h => nomatch h) (Nat.le_of_ble_eq_true rfl) ⟨⟨Or.inr (by first | exact ⟨rfl, pR_B _ (by decide)⟩ | exact ⟨rfl, uR_B (by decide) (by decide)⟩), Or.inr rfl, Or.inr trivial, Or.inr rfl, Or.inr trivial, Or.inr trivial, Or.inr trivial, Or.inr trivial, Or.inr trivial, Or.inr trivial, Or.inr trivial, Or.inr trivial, Or.inr trivial, Or.inr trivial, Or.inr trivial, Or.inr trivial, Or.inr trivial, Or.inr trivial, Or.inr trivial, Or.inr trivial, Or.inr trivial, Or.inr trivial, Or.inl rfl, Or.inl rfl, trivial⟩, rfl, rfl, rfl, Nat.le_of_ble_eq_true rfl⟩ rfl zC5 rfl rfl dX1_grow_36 (fun r_36 w_36 hp => ?_) (fun _ _ h => h.elim)
      obtain ⟨rfl, rfl⟩ := hp
      rw [hLe]
      refine z_weq (w' := [zPl _ _, zO _ [zr _ _, zr _ _, zr _ _, zr _ _, zr _ _, zi _, zi _, zr _ _, zr _ _], zH, zO _ [zr _ _, zi _, zi _, zi _], zAi 0 24 _, zH, zH, zH, zH, zH, zH, zH, zH, zH, zH, zH, zH, zH, zH, zH, zH, zH, zO _ [zi _, zi _, zr _ _], zAi 0 24 _, zAi 0 L _]) rfl ?_
      refine z_seq (S' := zr _ _ :: _) rfl ?_
      refine z_astore F dX1_grow_39 (Nat.le_of_ble_eq_true rfl) ?_
      refine z_leq (L' := [_, _, _, _, _, _, _, _, _, _, _, _, _]) rfl ?_
      refine z_new F 25 [zi 0, zi 0, zn] zC5 q151 q232 q116 (fun _ j hj => by match j, hj with | 0, _ => rfl | 1, _ => rfl | 2, _ => rfl) rfl (Nat.le_of_ble_eq_true rfl) (Nat.le_of_ble_eq_true rfl) ⟨(by first | exact pR_N _ (Nat.le_of_ble_eq_true rfl) | exact uR_N (Nat.le_of_ble_eq_true rfl) (Nat.le_of_ble_eq_true rfl)), rfl, trivial, rfl, trivial, trivial, trivial, trivial, trivial, trivial, trivial, trivial, trivial, trivial, trivial, trivial, trivial, trivial, trivial, trivial, trivial, trivial, rfl, trivial, trivial, trivial⟩ rfl rfl ⟨by omega, by omega⟩ dX1_grow_41 ?_
      refine z_weq (w' := [_, _, _, _, _, _, _, _, _, _, _, _, _, _, _, _, _, _, _, _, _, _, _, _, _, _]) rfl ?_
      refine z_dup F dX1_grow_44 rfl ?_
      refine z_aload_n F dX1_grow_45 rfl ?_
      refine z_getN F zC5 (f := 0) rfl (Nat.le_of_ble_eq_true rfl) q245 rfl dX1_grow_46 ?_
      refine z_iconst F (nI 1) dX1_grow_49 rfl ?_
      refine z_iaddN F dX1_grow_50 ?_
      refine z_aload_n F dX1_grow_51 rfl ?_
      refine z_getN F zC5 (f := 1) rfl (Nat.le_of_ble_eq_true rfl) q248 rfl dX1_grow_52 ?_
      refine z_iconst F (nI 2) dX1_grow_55 rfl ?_
      refine z_iload_n F dX1_grow_56 rfl ?_
      refine z_imulN F dX1_grow_57 ?_
      refine z_mmax F q771 dX1_grow_58 (Nat.le_of_ble_eq_true rfl) rfl (Nat.le_of_ble_eq_true rfl) ⟨by omega, by omega⟩ ?_
      refine z_ieq (mmaxN (by omega) (by omega)) ?_
      refine z_callI F (c_netInit (nI (n + 1)) (nI (max d 2))) 2 rfl (lw_meth q235) q116 q356 q234 rfl (by decide +kernel) ⟨Nat.le_of_ble_eq_true rfl, Nat.le_of_ble_eq_true rfl⟩ ⟨by omega, by omega⟩ [0, 25] 26 ⟨rfl, rfl, rfl, ⟨Or.inl rfl, Or.inr rfl, trivial⟩⟩ (fun h => nomatch h) (Nat.le_of_ble_eq_true rfl) ⟨⟨Or.inr (by first | exact ⟨rfl, pR_B _ (by decide)⟩ | exact ⟨rfl, uR_B (by decide) (by decide)⟩), Or.inr rfl, Or.inr trivial, Or.inr rfl, Or.inr trivial, Or.inr trivial, Or.inr trivial, Or.inr trivial, Or.inr trivial, Or.inr trivial, Or.inr trivial, Or.inr trivial, Or.inr trivial, Or.inr trivial, Or.inr trivial, Or.inr trivial, Or.inr trivial, Or.inr trivial, Or.inr trivial, Or.inr trivial, Or.inr trivial, Or.inr trivial, Or.inr rfl, Or.inr trivial, Or.inr trivial, Or.inl rfl, trivial⟩, rfl, rfl, rfl, Nat.le_of_ble_eq_true rfl⟩ rfl rfl dX1_grow_61 (fun r_61 w_61 hp => ?_) (fun _ _ h => h.elim)
      obtain ⟨rfl, rfl⟩ := hp
      refine z_weq (w' := [zPl _ _, zO _ [zr _ _, zr _ _, zr _ _, zr _ _, zr _ _, zi _, zi _, zr _ _, zr _ _], zH, zO _ [zr _ _, zi _, zi _, zi _], zAi 0 24 _, zH, zH, zH, zH, zH, zH, zH, zH, zH, zH, zH, zH, zH, zH, zH, zH, zH, zO _ [zi _, zi _, zr _ _], zAi 0 24 _, zAi 0 L _, zO _ [zi _, zi _, zr _ _], zAi 0 24 _]) rfl ?_
      refine z_seq (S' := [_]) rfl ?_
      refine z_astore F dX1_grow_64 (Nat.le_of_ble_eq_true rfl) ?_
      refine z_leq (L' := [_, _, _, _, _, _, _, _, _, _, _, _, _]) rfl ?_
      refine z_iconst F (-1) dX1_grow_66 rfl ?_
      refine z_istore F dX1_grow_67 (Nat.le_of_ble_eq_true rfl) ?_
      refine z_leq (L' := [_, _, _, _, _, _, _, _, _, _, _, _, _]) rfl ?_
      refine z_iconst F (-1) dX1_grow_69 rfl ?_
      refine z_istore F dX1_grow_70 (Nat.le_of_ble_eq_true rfl) ?_
      refine z_leq (L' := [_, _, _, _, _, _, _, _, _, _, _, _, _]) rfl ?_
      refine z_iconst F (nI 0) dX1_grow_72 rfl ?_
      refine z_istore F dX1_grow_73 (Nat.le_of_ble_eq_true rfl) ?_
      refine z_leq (L' := [_, _, _, _, _, _, _, _, _, _, _, _, _]) rfl ?_
      refine z_iconst F (nI 0) dX1_grow_75 rfl ?_
      refine z_istore F dX1_grow_76 (Nat.le_of_ble_eq_true rfl) ?_
      refine z_leq (L' := [_, _, _, _, _, _, _, _, _, _, _, _, _]) rfl ?_
      refine z_widen (k' := 5) (n' := 139) (by omega) (by omega) ?_
      exact loop _ 0 sn0 g0 sm0 D _ (Nat.lt_succ_self _) (by omega) (fun _ _ _ => rfl)
    · exact absurd c_30 (by omega)
  · exact absurd c_8 (by omega)
set_option maxHeartbeats 8000000 in
theorem c_pgrow2 (P : zPt) (t : Nat) (fp sn0 g0 sm0 : Int32) (D : Nat → Int32) (j n d : Nat) (f : Nat → Int32) (hj : j < 8) (h : nok n d f) (hn : n < 24) (hP : P j = some (nI n, nI d, f)) : zCtr yX1_grow cX1_grow 13 (some .int) 8 6 160 [zr 1 0, zi (nI j), zi (nI 2)] (xFl P t fp sn0 g0 sm0 D) (fun r w => r = some (zi (gvI (ga2 n f (prs n f).length))) ∧ ∃ sn g sm D, ((ga2 n f (prs n f).length = none ∧ w = xFl P t fp sn g sm D) ∨ ∃ q y, ga2 n f (prs n f).length = some q ∧ (∀ k, k < 24 → y k = gw2 n f q.1 q.2.1 k) ∧ w = xFl (zput P j (some (nI (n + 1), nI (max d 4), y))) t fp sn g sm D)) zNx := by
  refine z_start (by decide) [some (zr 1 0), some (zi (nI j)), some (zi (nI 2)), none, none, none, none, none, none, none, none, none, none] rfl (fun _ => Nat.le_of_ble_eq_true rfl) (fun _ => rfl) (fun X F E hno hin => ?_)
  have h24 := h.n24
  have hd8 := h.d8
  have h96 := prs_96 h
  have hfz : ∀ k, n ≤ k → k < 24 → f k = nI 0 := fun k h1 h2 => h.zero h1 h2
  generalize hLe : (prs n f).length = L at *
  have hat : ∀ i, i < L → la (prs n f) i < lb (prs n f) i ∧ lb (prs n f) i < n := fun i hi => by
    have := prs_at (show i < (prs n f).length by omega)
    exact ⟨this.1, this.2.1⟩
  have hfb : ∀ s, gok n f true s → ∀ q, s = some q → la (prs n f) q.1 < 32 ∧ lb (prs n f) q.1 < 32 := fun s hs q hq => by
    have h1 := (hs q hq).1
    have := hat q.1 (by omega)
    omega
  have hvb : ∀ s, gok n f true s → msV s ≤ 1000000 := fun s hs => by
    cases s with
    | none => exact Nat.zero_le _
    | some q => exact (hs q rfl).2.2.1
  have hg1z : ∀ i, i < L → ∀ (y : Nat → Int32), (∀ k, k < 24 → y k = gw1 n f i k) → ∀ k, n < k → k < 24 → y k = nI 0 := fun i hi y hy k h1 h2 => by
    have := hat i hi
    rw [hy k h2]
    unfold gw1 gr1 jn pt
    simp only [upd_at]
    rw [if_neg (by omega), if_neg (by omega), if_neg (by omega), if_neg (by omega), if_neg (by omega), if_neg (by omega)]
    exact hfz k (by omega) h2
  have hg2z : ∀ i k0, i < L → k0 < L → ∀ (y : Nat → Int32), (∀ k, k < 24 → y k = gw2 n f i k0 k) → ∀ k, n < k → k < 24 → y k = nI 0 := fun i k0 hi hk0 y hy k h1 h2 => by
    have := hat k0 hk0
    rw [hy k h2]
    have e : gw2 n f i k0 k = gw1 n f i k := by
      unfold gw2 gr1 jn pt
      simp only [upd_at]
      rw [if_neg (by omega), if_neg (by omega), if_neg (by omega), if_neg (by omega), if_neg (by omega), if_neg (by omega)]
    rw [e]
    exact hg1z i hi (gw1 n f i) (fun _ _ => rfl) k h1 h2
  have J : ∀ (sn g sm : Int32) (D y : Nat → Int32), (∀ k, n < k → k < 24 → y k = nI 0) → Z X [some (zr 1 0), some (zi (nI j)), some (zi (nI 2)), some (zr 22 0), some (zr 24 0), some (zr 25 0), some (zi (fI (prs n f) (ga2 n f L))), some (zi (sI (prs n f) (ga2 n f L))), some (zi (nI (msV (ga2 n f L)))), some (zi (nI L)), none, none, none] [] [zPl (zput (pR P) j (zr 22 0)) (zput P j none), xO t fp, zH, eFl 4 sn g sm, zAi 0 24 D, zH, zH, zH, zH, zH, zH, zH, zH, zH, zH, zH, zH, zH, zH, zH, zH, zH, zO 5 [zi (nI n), zi (nI d), zr 23 0], zAi 0 24 f, zAi 0 L (rowA (prs n f) (fun _ => 0)), zO 5 [zi (nI (n + 1)), zi (nI (max d 4)), zr 26 0], zAi 0 24 y] 5 139 202 := by
    intro sn g sm D y hy
    have hok := ga2_ok (f := f) hn L (by omega)
    rcases hq : ga2 n f L with _ | q
    ·
      refine z_iload F dX1_grow_202 rfl ?_
      refine z_iconst F (-1) dX1_grow_204 rfl ?_
      refine z_icmp_ne F (tgt := 210) dX1_grow_205 (by decide) (fun c_205 => ?_) (fun c_205 => ?_)
      · exact absurd rfl c_205
      · refine z_iconst F (-1) dX1_grow_208 rfl ?_
        refine z_loc [some _, some _, some _, none, none, none, some _, some _, some _, some _, none, none, none] ⟨rfl, rfl, rfl, rfl, rfl, rfl, rfl, trivial⟩ ?_
        refine z_unfocus F rfl j 22 23 22 hj zput_self rfl rfl (Nat.le_of_ble_eq_true rfl) (Nat.le_of_ble_eq_true rfl) (Nat.le_of_ble_eq_true rfl) (Nat.le_of_ble_eq_true rfl) [zO _ [zr _ _, zr _ _, zr _ _, zr _ _, zr _ _, zi _, zi _, zr _ _, zr _ _], zH, zO _ [zr _ _, zi _, zi _, zi _], zAi 0 24 _, zH, zH, zH, zH, zH, zH, zH, zH, zH, zH, zH, zH, zH, zH, zH, zH, zH] rfl ⟨rfl, trivial, rfl, trivial, trivial, trivial, trivial, trivial, trivial, trivial, trivial, trivial, trivial, trivial, trivial, trivial, trivial, trivial, trivial, trivial, trivial, trivial⟩ uOK rfl rfl ?_
        refine z_weq (w' := zPl (pR (zput P j (some _))) (zput P j (some _)) :: _) (congrArg (fun z => z :: _) uPl2) ?_
        exact z_iret F E rfl dX1_grow_209 (by omega) (by omega) (⟨by rw [hq]; rfl, sn, g, sm, D, Or.inl ⟨hq, by rw [zput_some hP]⟩⟩)
    · obtain ⟨q1, q2, q3, q4⟩ := hok q hq
      have a1 := hat q.1 (by omega)
      have a2 := hat q.2.1 (by omega)
      refine z_leq (L' := [some (zr 1 0), some (zi (nI j)), some (zi (nI 2)), some (zr 22 0), some (zr 24 0), some (zr 25 0), some (zi (nI (32 * la (prs n f) q.1 + lb (prs n f) q.1))), some (zi (nI (32 * la (prs n f) q.2.1 + lb (prs n f) q.2.1))), some (zi (nI q.2.2)), some (zi (nI L)), none, none, none]) rfl ?_
      refine z_iload F dX1_grow_202 rfl ?_
      refine z_iconst F (-1) dX1_grow_204 rfl ?_
      refine z_icmp_ne F (tgt := 210) dX1_grow_205 (by decide) (fun c_205 => ?_) (fun c_205 => ?_)
      · refine z_aload F dX1_grow_210 rfl ?_
        refine z_aload_n F dX1_grow_212 rfl ?_
        refine z_iload F dX1_grow_213 rfl ?_
        refine z_iload F dX1_grow_215 rfl ?_
        refine z_callS F (c_grows2 n (n + 1) (nI d) (nI (max d 4)) f _ (la (prs n f) q.1) (lb (prs n f) q.1) (la (prs n f) q.2.1) (lb (prs n f) q.2.1) hn (by omega) a1.2 (by omega) a2.2 hfz hy (apr_to (q4 rfl))) 4 rfl (lw_S q1456 q1457 q109 q1458) (by decide +kernel) ⟨Nat.le_of_ble_eq_true rfl, Nat.le_of_ble_eq_true rfl⟩ ⟨by omega, by omega⟩ [0, 25, 26, 22, 23] 27 ⟨rfl, rfl, rfl, ⟨Or.inl rfl, Or.inr rfl, Or.inr rfl, Or.inr rfl, Or.inr rfl, trivial⟩⟩ (fun h => nomatch h) (Nat.le_of_ble_eq_true rfl) ⟨⟨Or.inr (by first | exact ⟨rfl, pR_B _ (by decide)⟩ | exact ⟨rfl, uR_B (by decide) (by decide)⟩), Or.inr rfl, Or.inr trivial, Or.inr rfl, Or.inr trivial, Or.inr trivial, Or.inr trivial, Or.inr trivial, Or.inr trivial, Or.inr trivial, Or.inr trivial, Or.inr trivial, Or.inr trivial, Or.inr trivial, Or.inr trivial, Or.inr trivial, Or.inr trivial, Or.inr trivial, Or.inr trivial, Or.inr trivial, Or.inr trivial, Or.inr trivial, Or.inl rfl, Or.inl rfl, Or.inr trivial, Or.inl rfl, Or.inl rfl, trivial⟩, rfl, rfl, rfl, Nat.le_of_ble_eq_true rfl⟩ rfl rfl dX1_grow_217 (fun r_217 w_217 hp => ?_) (fun _ _ h => h.elim)
        obtain ⟨rfl, y2, rfl, hy2⟩ := hp
        refine z_weq (w' := [zPl _ _, zO _ [zr _ _, zr _ _, zr _ _, zr _ _, zr _ _, zi _, zi _, zr _ _, zr _ _], zH, zO _ [zr _ _, zi _, zi _, zi _], zAi 0 24 _, zH, zH, zH, zH, zH, zH, zH, zH, zH, zH, zH, zH, zH, zH, zH, zH, zH, zO _ [zi _, zi _, zr _ _], zAi 0 24 _, zAi 0 L _, zO _ [zi _, zi _, zr _ _], zAi 0 24 _]) rfl ?_
        refine z_seq (S' := zi _ :: _) rfl ?_
        refine z_pop F dX1_grow_220 rfl ?_
        refine z_unfocusH F rfl j 22 23 hj zput_self rfl rfl (Nat.le_of_ble_eq_true rfl) (Nat.le_of_ble_eq_true rfl) [zO _ [zr _ _, zr _ _, zr _ _, zr _ _, zr _ _, zi _, zi _, zr _ _, zr _ _], zH, zO _ [zr _ _, zi _, zi _, zi _], zAi 0 24 _, zH, zH, zH, zH, zH, zH, zH, zH, zH, zH, zH, zH, zH, zH, zH, zH, zH, zH, zH, zAi 0 L _, zO _ [zi _, zi _, zr _ _], zAi 0 24 _] rfl ⟨Nat.le_of_ble_eq_true rfl, Nat.le_of_ble_eq_true rfl⟩ ⟨rfl, trivial, rfl, trivial, trivial, trivial, trivial, trivial, trivial, trivial, trivial, trivial, trivial, trivial, trivial, trivial, trivial, trivial, trivial, trivial, trivial, trivial, trivial, trivial, rfl, trivial, trivial⟩ uOV rfl rfl ?_
        refine z_weq (w' := zPl (pR P) P :: _) (congrArg (fun z => z :: _) (uPl3 hP)) ?_
        refine z_aload_n F dX1_grow_221 rfl ?_
        refine z_get F zC1 (f := 0) rfl (Nat.le_of_ble_eq_true rfl) q313 rfl dX1_grow_222 ?_
        refine z_iload_n F dX1_grow_225 rfl ?_
        refine z_aload F dX1_grow_226 rfl ?_
        refine z_aastP F (by omega) rfl dX1_grow_228 ?_
        refine z_weq (w' := [_, _, _, _, _, _, _, _, _, _, _, _, _, _, _, _, _, _, _, _, _, _, _, _, _, _, _]) rfl ?_
        refine z_loc [some _, some _, some _, none, none, none, some _, some _, some _, some _, none, none, none] ⟨rfl, rfl, rfl, rfl, rfl, rfl, rfl, trivial⟩ ?_
        refine z_unfocus F rfl j 25 26 22 hj zput_self rfl rfl (Nat.le_of_ble_eq_true rfl) (Nat.le_of_ble_eq_true rfl) (Nat.le_of_ble_eq_true rfl) (Nat.le_of_ble_eq_true rfl) [zO _ [zr _ _, zr _ _, zr _ _, zr _ _, zr _ _, zi _, zi _, zr _ _, zr _ _], zH, zO _ [zr _ _, zi _, zi _, zi _], zAi 0 24 _, zH, zH, zH, zH, zH, zH, zH, zH, zH, zH, zH, zH, zH, zH, zH, zH, zH] rfl ⟨rfl, trivial, rfl, trivial, trivial, trivial, trivial, trivial, trivial, trivial, trivial, trivial, trivial, trivial, trivial, trivial, trivial, trivial, trivial, trivial, trivial, trivial⟩ uOK rfl rfl ?_
        refine z_weq (w' := zPl (pR (zput P j (some _))) (zput P j (some _)) :: _) (congrArg (fun z => z :: _) uPl1) ?_
        refine z_iload F dX1_grow_229 rfl ?_
        exact z_iret F E rfl dX1_grow_231 (by omega) (by omega) (⟨by rw [hq]; rfl, sn, g, sm, D, Or.inr ⟨q, y2, hq, hy2, rfl⟩⟩)
      · exact absurd c_205 (nI_ne (by omega))
  have inner : ∀ (i : Nat) (s : MS), i < L → gok n f true s → (∀ sn g sm D y, (∀ k, n < k → k < 24 → y k = nI 0) → Z X [some (zr 1 0), some (zi (nI j)), some (zi (nI 2)), some (zr 22 0), some (zr 24 0), some (zr 25 0), some (zi (fI (prs n f) (gb2 n f i s L))), some (zi (sI (prs n f) (gb2 n f i s L))), some (zi (nI (msV (gb2 n f i s L)))), some (zi (nI i)), none, none, none] [] [zPl (zput (pR P) j (zr 22 0)) (zput P j none), xO t fp, zH, eFl 4 sn g sm, zAi 0 24 D, zH, zH, zH, zH, zH, zH, zH, zH, zH, zH, zH, zH, zH, zH, zH, zH, zH, zO 5 [zi (nI n), zi (nI d), zr 23 0], zAi 0 24 f, zAi 0 L (rowA (prs n f) (fun _ => 0)), zO 5 [zi (nI (n + 1)), zi (nI (max d 4)), zr 26 0], zAi 0 24 y] 5 139 196) →
      ∀ (m k : Nat) (sn g sm : Int32) (D y : Nat → Int32), L + 1 - k < m → i < k → k ≤ L → (∀ k, n < k → k < 24 → y k = nI 0) → Z X [some (zr 1 0), some (zi (nI j)), some (zi (nI 2)), some (zr 22 0), some (zr 24 0), some (zr 25 0), some (zi (fI (prs n f) (gb2 n f i s k))), some (zi (sI (prs n f) (gb2 n f i s k))), some (zi (nI (msV (gb2 n f i s k)))), some (zi (nI i)), some (zi (nI k)), none, none] [] [zPl (zput (pR P) j (zr 22 0)) (zput P j none), xO t fp, zH, eFl 4 sn g sm, zAi 0 24 D, zH, zH, zH, zH, zH, zH, zH, zH, zH, zH, zH, zH, zH, zH, zH, zH, zH, zO 5 [zi (nI n), zi (nI d), zr 23 0], zAi 0 24 f, zAi 0 L (rowA (prs n f) (fun _ => 0)), zO 5 [zi (nI (n + 1)), zi (nI (max d 4)), zr 26 0], zAi 0 24 y] 5 139 105 := by
    intro i s hi hs kk m
    induction m with
    | zero => intro k sn g sm D y hm; omega
    | succ m ih =>
      intro k sn g sm D y hm hik hk hy
      have hok := gb2_ok (i := i) hn (by omega) hs k (by omega)
      have hvl := hvb _ hok
      have a1 := hat i hi
      have hcb := fun y => cpr_bd (n := n + 1) y (by omega)
      by_cases hkl : k = L
      · subst hkl
        refine z_iload F dX1_grow_105 rfl ?_
        refine z_aload F dX1_grow_107 rfl ?_
        refine z_alenN F (fun _ => rfl) rfl dX1_grow_109 ?_
        refine z_icmp_geN F (by omega) (by omega) (tgt := 196) dX1_grow_110 (by decide) (fun c_110 => ?_) (fun c_110 => ?_)
        · refine z_loc _ ?_ (kk sn g sm D y hy)
          exact ⟨rfl, rfl, rfl, rfl, rfl, rfl, rfl, rfl, rfl, rfl, trivial⟩
        · exact absurd c_110 (by omega)
      · have a2 := hat k (by omega)
        have K2 : ∀ (s' : MS) (sn g sm : Int32) (D y : Nat → Int32), s' = gb2 n f i s (k + 1) → (∀ k, n < k → k < 24 → y k = nI 0) → Z X [some (zr 1 0), some (zi (nI j)), some (zi (nI 2)), some (zr 22 0), some (zr 24 0), some (zr 25 0), some (zi (fI (prs n f) (s'))), some (zi (sI (prs n f) (s'))), some (zi (nI (msV (s')))), some (zi (nI i)), some (zi (nI (k + 1))), none, none] [] [zPl (zput (pR P) j (zr 22 0)) (zput P j none), xO t fp, zH, eFl 4 sn g sm, zAi 0 24 D, zH, zH, zH, zH, zH, zH, zH, zH, zH, zH, zH, zH, zH, zH, zH, zH, zH, zO 5 [zi (nI n), zi (nI d), zr 23 0], zAi 0 24 f, zAi 0 L (rowA (prs n f) (fun _ => 0)), zO 5 [zi (nI (n + 1)), zi (nI (max d 4)), zr 26 0], zAi 0 24 y] 5 139 105 := by
          intro s' sn g sm D y hs' hy
          subst hs'
          exact ih (k + 1) sn g sm D y (by omega) (by omega) (by omega) hy
        rcases hap : apr (prs n f) i k with _ | _
        · have hna : ¬ (la (prs n f) i ≠ la (prs n f) k ∧ la (prs n f) i ≠ lb (prs n f) k ∧ lb (prs n f) i ≠ la (prs n f) k ∧ lb (prs n f) i ≠ lb (prs n f) k) := fun z => by
            unfold apr at hap
            simp [z.1, z.2.1, z.2.2.1, z.2.2.2] at hap
          refine z_iload F dX1_grow_105 rfl ?_
          refine z_aload F dX1_grow_107 rfl ?_
          refine z_alenN F (fun _ => rfl) rfl dX1_grow_109 ?_
          refine z_icmp_geN F (by omega) (by omega) (tgt := 196) dX1_grow_110 (by decide) (fun c_110 => ?_) (fun c_110 => ?_)
          · exact absurd c_110 (by omega)
          · refine z_iload_n F dX1_grow_113 rfl ?_
            refine z_iconst F (nI 1) dX1_grow_114 rfl ?_
            refine z_icmp_neN F (by omega) (by omega) (tgt := 122) dX1_grow_115 (by decide) (fun c_115 => ?_) (fun c_115 => ?_)
            · refine z_aload F dX1_grow_122 rfl ?_
              refine z_iload F dX1_grow_124 rfl ?_
              refine z_ialdN F rfl (by omega) (by omega) rfl dX1_grow_126 ?_
              refine z_ieq (rw1 (by omega)) ?_
              refine z_istore F dX1_grow_127 (Nat.le_of_ble_eq_true rfl) ?_
              refine z_leq (L' := [_, _, _, _, _, _, _, _, _, _, _, _, _]) rfl ?_
              refine z_aload F dX1_grow_129 rfl ?_
              refine z_aload_n F dX1_grow_131 rfl ?_
              refine z_aload F dX1_grow_132 rfl ?_
              refine z_iload F dX1_grow_134 rfl ?_
              refine z_ialdN F rfl (by omega) (by omega) rfl dX1_grow_136 ?_
              refine z_ieq (rw1 (by omega)) ?_
              refine z_iload F dX1_grow_137 rfl ?_
              refine z_callS F (c_grows0 n (n + 1) (nI d) (nI (max d 4)) f _ (la (prs n f) i) (lb (prs n f) i) (la (prs n f) k) (lb (prs n f) k) (by omega) (by omega) (by omega) (by omega) hna) 4 rfl (lw_S q1456 q1457 q109 q1458) (by decide +kernel) ⟨Nat.le_of_ble_eq_true rfl, Nat.le_of_ble_eq_true rfl⟩ ⟨by omega, by omega⟩ [0, 25, 26, 22, 23] 27 ⟨rfl, rfl, rfl, ⟨Or.inl rfl, Or.inr rfl, Or.inr rfl, Or.inr rfl, Or.inr rfl, trivial⟩⟩ (fun h => nomatch h) (Nat.le_of_ble_eq_true rfl) ⟨⟨Or.inr (by first | exact ⟨rfl, pR_B _ (by decide)⟩ | exact ⟨rfl, uR_B (by decide) (by decide)⟩), Or.inr rfl, Or.inr trivial, Or.inr rfl, Or.inr trivial, Or.inr trivial, Or.inr trivial, Or.inr trivial, Or.inr trivial, Or.inr trivial, Or.inr trivial, Or.inr trivial, Or.inr trivial, Or.inr trivial, Or.inr trivial, Or.inr trivial, Or.inr trivial, Or.inr trivial, Or.inr trivial, Or.inr trivial, Or.inr trivial, Or.inr trivial, Or.inl rfl, Or.inl rfl, Or.inr trivial, Or.inl rfl, Or.inl rfl, trivial⟩, rfl, rfl, rfl, Nat.le_of_ble_eq_true rfl⟩ rfl rfl dX1_grow_139 (fun r_139 w_139 hp => ?_) (fun _ _ h => h.elim)
              obtain ⟨rfl, rfl⟩ := hp
              refine z_weq (w' := [zPl _ _, zO _ [zr _ _, zr _ _, zr _ _, zr _ _, zr _ _, zi _, zi _, zr _ _, zr _ _], zH, zO _ [zr _ _, zi _, zi _, zi _], zAi 0 24 _, zH, zH, zH, zH, zH, zH, zH, zH, zH, zH, zH, zH, zH, zH, zH, zH, zH, zO _ [zi _, zi _, zr _ _], zAi 0 24 _, zAi 0 L _, zO _ [zi _, zi _, zr _ _], zAi 0 24 _]) rfl ?_
              refine z_seq (S' := zi _ :: _) rfl ?_
              refine z_if_neB F (tgt := 148) dX1_grow_142 (by decide) (fun c_142 => ?_) (fun c_142 => ?_)
              · cases c_142
              · refine z_goto F (tgt := 190) dX1_grow_145 (by decide) ?_
                refine z_iincN F 1 dX1_grow_190 rfl rfl ?_
                refine z_leq (L' := [_, _, _, _, _, _, _, _, _, _, _, _, _]) rfl ?_
                refine z_goto F (tgt := 105) dX1_grow_193 (by decide) ?_
                refine z_loc _ ?_ (K2 (gb2 n f i s k) sn g sm D y (gb2_n hap).symm hy)
                exact ⟨rfl, rfl, rfl, rfl, rfl, rfl, rfl, rfl, rfl, rfl, rfl, trivial⟩
            · exact absurd c_115 (by omega)
        ·
          refine z_iload F dX1_grow_105 rfl ?_
          refine z_aload F dX1_grow_107 rfl ?_
          refine z_alenN F (fun _ => rfl) rfl dX1_grow_109 ?_
          refine z_icmp_geN F (by omega) (by omega) (tgt := 196) dX1_grow_110 (by decide) (fun c_110 => ?_) (fun c_110 => ?_)
          · exact absurd c_110 (by omega)
          · refine z_iload_n F dX1_grow_113 rfl ?_
            refine z_iconst F (nI 1) dX1_grow_114 rfl ?_
            refine z_icmp_neN F (by omega) (by omega) (tgt := 122) dX1_grow_115 (by decide) (fun c_115 => ?_) (fun c_115 => ?_)
            · refine z_aload F dX1_grow_122 rfl ?_
              refine z_iload F dX1_grow_124 rfl ?_
              refine z_ialdN F rfl (by omega) (by omega) rfl dX1_grow_126 ?_
              refine z_ieq (rw1 (by omega)) ?_
              refine z_istore F dX1_grow_127 (Nat.le_of_ble_eq_true rfl) ?_
              refine z_leq (L' := [_, _, _, _, _, _, _, _, _, _, _, _, _]) rfl ?_
              refine z_aload F dX1_grow_129 rfl ?_
              refine z_aload_n F dX1_grow_131 rfl ?_
              refine z_aload F dX1_grow_132 rfl ?_
              refine z_iload F dX1_grow_134 rfl ?_
              refine z_ialdN F rfl (by omega) (by omega) rfl dX1_grow_136 ?_
              refine z_ieq (rw1 (by omega)) ?_
              refine z_iload F dX1_grow_137 rfl ?_
              refine z_callS F (c_grows2 n (n + 1) (nI d) (nI (max d 4)) f _ (la (prs n f) i) (lb (prs n f) i) (la (prs n f) k) (lb (prs n f) k) hn (by omega) a1.2 (by omega) a2.2 hfz hy (apr_to hap)) 4 rfl (lw_S q1456 q1457 q109 q1458) (by decide +kernel) ⟨Nat.le_of_ble_eq_true rfl, Nat.le_of_ble_eq_true rfl⟩ ⟨by omega, by omega⟩ [0, 25, 26, 22, 23] 27 ⟨rfl, rfl, rfl, ⟨Or.inl rfl, Or.inr rfl, Or.inr rfl, Or.inr rfl, Or.inr rfl, trivial⟩⟩ (fun h => nomatch h) (Nat.le_of_ble_eq_true rfl) ⟨⟨Or.inr (by first | exact ⟨rfl, pR_B _ (by decide)⟩ | exact ⟨rfl, uR_B (by decide) (by decide)⟩), Or.inr rfl, Or.inr trivial, Or.inr rfl, Or.inr trivial, Or.inr trivial, Or.inr trivial, Or.inr trivial, Or.inr trivial, Or.inr trivial, Or.inr trivial, Or.inr trivial, Or.inr trivial, Or.inr trivial, Or.inr trivial, Or.inr trivial, Or.inr trivial, Or.inr trivial, Or.inr trivial, Or.inr trivial, Or.inr trivial, Or.inr trivial, Or.inl rfl, Or.inl rfl, Or.inr trivial, Or.inl rfl, Or.inl rfl, trivial⟩, rfl, rfl, rfl, Nat.le_of_ble_eq_true rfl⟩ rfl rfl dX1_grow_139 (fun r_139 w_139 hp => ?_) (fun _ _ h => h.elim)
              obtain ⟨rfl, y2, rfl, hy2⟩ := hp
              have hyz := hg2z i k hi (by omega) y2 hy2
              have hce := cpr_cong (n := n + 1) (f := y2) (g := gw2 n f i k) (fun k hk => hy2 k (by omega))
              have hcv := hcb y2
              refine z_weq (w' := [zPl _ _, zO _ [zr _ _, zr _ _, zr _ _, zr _ _, zr _ _, zi _, zi _, zr _ _, zr _ _], zH, zO _ [zr _ _, zi _, zi _, zi _], zAi 0 24 _, zH, zH, zH, zH, zH, zH, zH, zH, zH, zH, zH, zH, zH, zH, zH, zH, zH, zO _ [zi _, zi _, zr _ _], zAi 0 24 _, zAi 0 L _, zO _ [zi _, zi _, zr _ _], zAi 0 24 _]) rfl ?_
              refine z_seq (S' := zi _ :: _) rfl ?_
              refine z_if_neB F (tgt := 148) dX1_grow_142 (by decide) (fun c_142 => ?_) (fun c_142 => ?_)
              · refine z_aload_n F dX1_grow_148 rfl ?_
                refine z_get F zC1 (f := 2) rfl (Nat.le_of_ble_eq_true rfl) q316 rfl dX1_grow_149 ?_
                refine z_aload F dX1_grow_152 rfl ?_
                refine z_callV F (c_price (n + 1) (nI (max d 4)) y2 _ _ _ _ (by omega)) 1 rfl (lw_V q862 q863 q864 q110 q865) (by decide +kernel) ⟨Nat.le_of_ble_eq_true rfl, Nat.le_of_ble_eq_true rfl⟩ ⟨by omega, by omega⟩ [0, 3, 4, 25, 26] 27 ⟨rfl, rfl, rfl, ⟨Or.inl rfl, Or.inr rfl, Or.inr rfl, Or.inr rfl, Or.inr rfl, trivial⟩⟩ (fun h => nomatch h) (Nat.le_of_ble_eq_true rfl) ⟨⟨Or.inr (by first | exact ⟨rfl, pR_B _ (by decide)⟩ | exact ⟨rfl, uR_B (by decide) (by decide)⟩), Or.inr rfl, Or.inr trivial, Or.inl rfl, Or.inl rfl, Or.inr trivial, Or.inr trivial, Or.inr trivial, Or.inr trivial, Or.inr trivial, Or.inr trivial, Or.inr trivial, Or.inr trivial, Or.inr trivial, Or.inr trivial, Or.inr trivial, Or.inr trivial, Or.inr trivial, Or.inr trivial, Or.inr trivial, Or.inr trivial, Or.inr trivial, Or.inr rfl, Or.inr trivial, Or.inr trivial, Or.inl rfl, Or.inl rfl, trivial⟩, rfl, rfl, rfl, Nat.le_of_ble_eq_true rfl⟩ rfl zC2 rfl rfl dX1_grow_154 (fun r_154 w_154 hp => ?_) (fun _ _ h => h.elim)
                obtain ⟨rfl, sn1, g1', sm1, D1, rfl⟩ := hp
                refine z_weq (w' := [zPl _ _, zO _ [zr _ _, zr _ _, zr _ _, zr _ _, zr _ _, zi _, zi _, zr _ _, zr _ _], zH, zO _ [zr _ _, zi _, zi _, zi _], zAi 0 24 _, zH, zH, zH, zH, zH, zH, zH, zH, zH, zH, zH, zH, zH, zH, zH, zH, zH, zO _ [zi _, zi _, zr _ _], zAi 0 24 _, zAi 0 L _, zO _ [zi _, zi _, zr _ _], zAi 0 24 _]) rfl ?_
                refine z_seq (S' := zi _ :: _) rfl ?_
                refine z_istore F dX1_grow_157 (Nat.le_of_ble_eq_true rfl) ?_
                refine z_leq (L' := [_, _, _, _, _, _, _, _, _, _, _, _, _]) rfl ?_
                refine z_iload F dX1_grow_159 rfl ?_
                refine z_iconst F (-1) dX1_grow_161 rfl ?_
                refine z_icmp_eq F (tgt := 175) dX1_grow_162 (by decide) (fun c_162 => ?_) (fun c_162 => ?_)
                · refine z_aload F dX1_grow_175 rfl ?_
                  refine z_iload F dX1_grow_177 rfl ?_
                  refine z_ialdN F rfl (by omega) (by omega) rfl dX1_grow_179 ?_
                  refine z_ieq (rw1 (by omega)) ?_
                  refine z_istore F dX1_grow_180 (Nat.le_of_ble_eq_true rfl) ?_
                  refine z_leq (L' := [_, _, _, _, _, _, _, _, _, _, _, _, _]) rfl ?_
                  refine z_iload F dX1_grow_182 rfl ?_
                  refine z_istore F dX1_grow_184 (Nat.le_of_ble_eq_true rfl) ?_
                  refine z_leq (L' := [_, _, _, _, _, _, _, _, _, _, _, _, _]) rfl ?_
                  refine z_iload F dX1_grow_186 rfl ?_
                  refine z_istore F dX1_grow_188 (Nat.le_of_ble_eq_true rfl) ?_
                  refine z_leq (L' := [_, _, _, _, _, _, _, _, _, _, _, _, _]) rfl ?_
                  refine z_iincN F 1 dX1_grow_190 rfl rfl ?_
                  refine z_leq (L' := [_, _, _, _, _, _, _, _, _, _, _, _, _]) rfl ?_
                  refine z_goto F (tgt := 105) dX1_grow_193 (by decide) ?_
                  refine z_loc _ ?_ (K2 (some (i, k, cpr (n + 1) y2)) sn1 g1' sm1 D1 y2 (by rw [gb2_y hik hap, ← hce, gx_1 (hfb _ hok) c_162]) hyz)
                  exact ⟨rfl, rfl, rfl, rfl, rfl, rfl, rfl, rfl, rfl, rfl, rfl, trivial⟩
                · refine z_iload F dX1_grow_165 rfl ?_
                  refine z_iload F dX1_grow_167 rfl ?_
                  refine z_icmp_ltN F (by omega) (by omega) (tgt := 175) dX1_grow_169 (by decide) (fun c_169 => ?_) (fun c_169 => ?_)
                  · refine z_aload F dX1_grow_175 rfl ?_
                    refine z_iload F dX1_grow_177 rfl ?_
                    refine z_ialdN F rfl (by omega) (by omega) rfl dX1_grow_179 ?_
                    refine z_ieq (rw1 (by omega)) ?_
                    refine z_istore F dX1_grow_180 (Nat.le_of_ble_eq_true rfl) ?_
                    refine z_leq (L' := [_, _, _, _, _, _, _, _, _, _, _, _, _]) rfl ?_
                    refine z_iload F dX1_grow_182 rfl ?_
                    refine z_istore F dX1_grow_184 (Nat.le_of_ble_eq_true rfl) ?_
                    refine z_leq (L' := [_, _, _, _, _, _, _, _, _, _, _, _, _]) rfl ?_
                    refine z_iload F dX1_grow_186 rfl ?_
                    refine z_istore F dX1_grow_188 (Nat.le_of_ble_eq_true rfl) ?_
                    refine z_leq (L' := [_, _, _, _, _, _, _, _, _, _, _, _, _]) rfl ?_
                    refine z_iincN F 1 dX1_grow_190 rfl rfl ?_
                    refine z_leq (L' := [_, _, _, _, _, _, _, _, _, _, _, _, _]) rfl ?_
                    refine z_goto F (tgt := 105) dX1_grow_193 (by decide) ?_
                    refine z_loc _ ?_ (K2 (some (i, k, cpr (n + 1) y2)) sn1 g1' sm1 D1 y2 (by rw [gb2_y hik hap, ← hce, gx_2 c_162 c_169]) hyz)
                    exact ⟨rfl, rfl, rfl, rfl, rfl, rfl, rfl, rfl, rfl, rfl, rfl, trivial⟩
                  · refine z_goto F (tgt := 190) dX1_grow_172 (by decide) ?_
                    refine z_iincN F 1 dX1_grow_190 rfl rfl ?_
                    refine z_leq (L' := [_, _, _, _, _, _, _, _, _, _, _, _, _]) rfl ?_
                    refine z_goto F (tgt := 105) dX1_grow_193 (by decide) ?_
                    refine z_loc _ ?_ (K2 (gb2 n f i s k) sn1 g1' sm1 D1 y2 (by rw [gb2_y hik hap, ← hce, gx_3 c_162 c_169]) hyz)
                    exact ⟨rfl, rfl, rfl, rfl, rfl, rfl, rfl, rfl, rfl, rfl, rfl, trivial⟩
              · cases c_142
            · exact absurd c_115 (by omega)
  have loop : ∀ (m i : Nat) (sn g sm : Int32) (D y : Nat → Int32), L - i < m → i ≤ L → (∀ k, n < k → k < 24 → y k = nI 0) → Z X [some (zr 1 0), some (zi (nI j)), some (zi (nI 2)), some (zr 22 0), some (zr 24 0), some (zr 25 0), some (zi (fI (prs n f) (ga2 n f i))), some (zi (sI (prs n f) (ga2 n f i))), some (zi (nI (msV (ga2 n f i)))), some (zi (nI i)), none, none, none] [] [zPl (zput (pR P) j (zr 22 0)) (zput P j none), xO t fp, zH, eFl 4 sn g sm, zAi 0 24 D, zH, zH, zH, zH, zH, zH, zH, zH, zH, zH, zH, zH, zH, zH, zH, zH, zH, zO 5 [zi (nI n), zi (nI d), zr 23 0], zAi 0 24 f, zAi 0 L (rowA (prs n f) (fun _ => 0)), zO 5 [zi (nI (n + 1)), zi (nI (max d 4)), zr 26 0], zAi 0 24 y] 5 139 78 := by
    intro m
    induction m with
    | zero => intro i sn g sm D y hm; omega
    | succ m ih =>
      intro i sn g sm D y hm hi hy
      have hok := ga2_ok (f := f) hn i (by omega)
      have hvl := hvb _ hok
      have back : ∀ (sn g sm : Int32) (D y : Nat → Int32), i < L → (∀ k, n < k → k < 24 → y k = nI 0) → Z X [some (zr 1 0), some (zi (nI j)), some (zi (nI 2)), some (zr 22 0), some (zr 24 0), some (zr 25 0), some (zi (fI (prs n f) (gb2 n f i (ga2 n f i) L))), some (zi (sI (prs n f) (gb2 n f i (ga2 n f i) L))), some (zi (nI (msV (gb2 n f i (ga2 n f i) L)))), some (zi (nI i)), none, none, none] [] [zPl (zput (pR P) j (zr 22 0)) (zput P j none), xO t fp, zH, eFl 4 sn g sm, zAi 0 24 D, zH, zH, zH, zH, zH, zH, zH, zH, zH, zH, zH, zH, zH, zH, zH, zH, zH, zO 5 [zi (nI n), zi (nI d), zr 23 0], zAi 0 24 f, zAi 0 L (rowA (prs n f) (fun _ => 0)), zO 5 [zi (nI (n + 1)), zi (nI (max d 4)), zr 26 0], zAi 0 24 y] 5 139 196 := by
        intro sn g sm D y hlt hy
        have e : ga2 n f (i + 1) = gb2 n f i (ga2 n f i) L := by rw [ga2, hLe]
        rw [← e]
        refine z_iincN F 1 dX1_grow_196 rfl rfl ?_
        refine z_leq (L' := [_, _, _, _, _, _, _, _, _, _, _, _, _]) rfl ?_
        refine z_goto F (tgt := 78) dX1_grow_199 (by decide) ?_
        exact ih (i + 1) sn g sm D y (by omega) (by omega) hy
      refine z_iload F dX1_grow_78 rfl ?_
      refine z_aload F dX1_grow_80 rfl ?_
      refine z_alenN F (fun _ => rfl) rfl dX1_grow_82 ?_
      refine z_icmp_geN F (by omega) (by omega) (tgt := 202) dX1_grow_83 (by decide) (fun c_83 => ?_) (fun c_83 => ?_)
      · have ei : i = L := by omega
        subst ei
        exact J sn g sm D y hy
      · refine z_iload_n F dX1_grow_86 rfl ?_
        refine z_iconst F (nI 1) dX1_grow_87 rfl ?_
        refine z_icmp_neN F (by omega) (by omega) (tgt := 99) dX1_grow_88 (by decide) (fun c_88 => ?_) (fun c_88 => ?_)
        · refine z_iload F dX1_grow_99 rfl ?_
          refine z_iconst F (nI 1) dX1_grow_101 rfl ?_
          refine z_iaddN F dX1_grow_102 ?_
          refine z_istore F dX1_grow_103 (Nat.le_of_ble_eq_true rfl) ?_
          refine z_leq (L' := [_, _, _, _, _, _, _, _, _, _, _, _, _]) rfl ?_
          have hh := inner i (ga2 n f i) (by omega) hok (fun sn g sm D y q => back sn g sm D y (by omega) q) _ (i + 1) sn g sm D y (Nat.lt_succ_self _) (by omega) (by omega) hy
          rw [gb2_lo _ (Nat.le_refl _)] at hh
          exact hh
        · exact absurd c_88 (by omega)
  refine z_aload_n F dX1_grow_0 rfl ?_
  refine z_iload_n F dX1_grow_1 rfl ?_
  refine z_callV F (c_netAt_ok P t fp j hj hP) 1 rfl (lw_V q429 q431 qs0 q109 q432) (by decide +kernel) ⟨Nat.le_of_ble_eq_true rfl, Nat.le_of_ble_eq_true rfl⟩ ⟨by omega, by omega⟩ [0, 1, 2, 3, 4, 5, 6, 7, 8, 9, 10, 11, 12, 13, 14, 15, 16, 17, 18, 19, 20, 21] 22 ⟨rfl, rfl, rfl, ⟨Or.inr (congrArg some (zrnP rfl).symm), Or.inr rfl, Or.inl rfl, Or.inl rfl, Or.inl rfl, Or.inl rfl, Or.inl rfl, Or.inl rfl, Or.inl rfl, Or.inl rfl, Or.inl rfl, Or.inl rfl, Or.inl rfl, Or.inl rfl, Or.inl rfl, Or.inl rfl, Or.inl rfl, Or.inl rfl, Or.inl rfl, Or.inl rfl, Or.inl rfl, Or.inl rfl, trivial⟩⟩ (fun _ => rfl) (Nat.le_of_ble_eq_true rfl) ⟨⟨Or.inl rfl, Or.inl rfl, Or.inr trivial, Or.inr rfl, Or.inr trivial, Or.inr trivial, Or.inr trivial, Or.inr trivial, Or.inr trivial, Or.inr trivial, Or.inr trivial, Or.inr trivial, Or.inr trivial, Or.inr trivial, Or.inr trivial, Or.inr trivial, Or.inr trivial, Or.inr trivial, Or.inr trivial, Or.inr trivial, Or.inr trivial, Or.inr trivial, trivial⟩, rfl, rfl, rfl, Nat.le_of_ble_eq_true rfl⟩ rfl zC1 rfl rfl dX1_grow_2 (fun r_2 w_2 hp => ?_) (fun _ _ h => h.elim)
  obtain ⟨rfl, rfl⟩ := hp
  refine z_weq (w' := zPl (pR _) _ :: _) (congrArg (fun z => z :: _) (zrnP rfl)) ?_
  refine z_weq (w' := [zPl _ _, zO _ [zr _ _, zr _ _, zr _ _, zr _ _, zr _ _, zi _, zi _, zr _ _, zr _ _], zH, zO _ [zr _ _, zi _, zi _, zi _], zAi 0 24 _, zH, zH, zH, zH, zH, zH, zH, zH, zH, zH, zH, zH, zH, zH, zH, zH, zH]) rfl ?_
  refine z_seq (S' := zr _ _ :: _) rfl ?_
  refine z_astore_n F dX1_grow_5 (Nat.le_of_ble_eq_true rfl) ?_
  refine z_leq (L' := [_, _, _, _, _, _, _, _, _, _, _, _, _]) rfl ?_
  refine z_foc F j hj hP (N := 22) (M := 23) (L' := [_, _, _, some (zr 22 0), _, _, _, _, _, _, _, _, _]) (S' := []) rfl rfl (Nat.le_of_ble_eq_true rfl) ⟨rfl, trivial, rfl, trivial, trivial, trivial, trivial, trivial, trivial, trivial, trivial, trivial, trivial, trivial, trivial, trivial, trivial, trivial, trivial, trivial, trivial, trivial⟩ ⟨Or.inl rfl, Or.inl rfl, Or.inl rfl, Or.inr ⟨rfl, rfl⟩, Or.inl rfl, Or.inl rfl, Or.inl rfl, Or.inl rfl, Or.inl rfl, Or.inl rfl, Or.inl rfl, Or.inl rfl, Or.inl rfl, trivial⟩ rfl trivial rfl ?_
  refine z_weq (w' := [zPl _ _, zO _ [zr _ _, zr _ _, zr _ _, zr _ _, zr _ _, zi _, zi _, zr _ _, zr _ _], zH, zO _ [zr _ _, zi _, zi _, zi _], zAi 0 24 _, zH, zH, zH, zH, zH, zH, zH, zH, zH, zH, zH, zH, zH, zH, zH, zH, zH, zO _ [zi _, zi _, zr _ _], zAi 0 24 _]) rfl ?_
  refine z_iload_n F dX1_grow_6 rfl ?_
  refine z_iconst F (nI 1) dX1_grow_7 rfl ?_
  refine z_icmp_eqN F (by omega) (by omega) (tgt := 16) dX1_grow_8 (by decide) (fun c_8 => ?_) (fun c_8 => ?_)
  · exact absurd c_8 (by omega)
  · refine z_iload_n F dX1_grow_11 rfl ?_
    refine z_iconst F (nI 2) dX1_grow_12 rfl ?_
    refine z_icmp_neN F (by omega) (by omega) (tgt := 20) dX1_grow_13 (by decide) (fun c_13 => ?_) (fun c_13 => ?_)
    · exact absurd c_13 (by omega)
    · refine z_iconstB F true dX1_grow_16 rfl ?_
      refine z_goto F (tgt := 21) dX1_grow_17 (by decide) ?_
      refine z_callS F (c_rgt true) 1 rfl (lw_S q538 q539 q109 q540) (by decide +kernel) ⟨Nat.le_of_ble_eq_true rfl, Nat.le_of_ble_eq_true rfl⟩ ⟨by omega, by omega⟩ [0] 24 ⟨rfl, rfl, rfl, ⟨Or.inl rfl, trivial⟩⟩ (fun h => nomatch h) (Nat.le_of_ble_eq_true rfl) ⟨⟨Or.inr (by first | exact ⟨rfl, pR_B _ (by decide)⟩ | exact ⟨rfl, uR_B (by decide) (by decide)⟩), Or.inr rfl, Or.inr trivial, Or.inr rfl, Or.inr trivial, Or.inr trivial, Or.inr trivial, Or.inr trivial, Or.inr trivial, Or.inr trivial, Or.inr trivial, Or.inr trivial, Or.inr trivial, Or.inr trivial, Or.inr trivial, Or.inr trivial, Or.inr trivial, Or.inr trivial, Or.inr trivial, Or.inr trivial, Or.inr trivial, Or.inr trivial, Or.inr rfl, Or.inr trivial, trivial⟩, rfl, rfl, rfl, Nat.le_of_ble_eq_true rfl⟩ rfl rfl dX1_grow_21 (fun r_21 w_21 hp => ?_) (fun E_ w_ hx => by obtain ⟨-, hb, -⟩ := hx; cases hb)
      obtain ⟨rfl, -, rfl⟩ := hp
      refine z_weq (w' := [zPl _ _, zO _ [zr _ _, zr _ _, zr _ _, zr _ _, zr _ _, zi _, zi _, zr _ _, zr _ _], zH, zO _ [zr _ _, zi _, zi _, zi _], zAi 0 24 _, zH, zH, zH, zH, zH, zH, zH, zH, zH, zH, zH, zH, zH, zH, zH, zH, zH, zO _ [zi _, zi _, zr _ _], zAi 0 24 _]) rfl ?_
      refine z_seq (S' := []) rfl ?_
      refine z_aload_n F dX1_grow_24 rfl ?_
      refine z_getN F zC5 (f := 0) rfl (Nat.le_of_ble_eq_true rfl) q245 rfl dX1_grow_25 ?_
      refine z_bipush F (nI 24) dX1_grow_28 rfl ?_
      refine z_icmp_neN F (by omega) (by omega) (tgt := 35) dX1_grow_30 (by decide) (fun c_30 => ?_) (fun c_30 => ?_)
      · refine z_aload_n F dX1_grow_35 rfl ?_
        refine z_callV F (c_row n (nI d) f h.sy (by omega)) 0 rfl (lw_V q779 q780 q781 q116 q782) (by decide +kernel) ⟨Nat.le_of_ble_eq_true rfl, Nat.le_of_ble_eq_true rfl⟩ ⟨by omega, by omega⟩ [0, 22, 23] 24 ⟨rfl, rfl, rfl, ⟨Or.inl rfl, Or.inr rfl, Or.inr rfl, trivial⟩⟩ (fun h => nomatch h) (Nat.le_of_ble_eq_true rfl) ⟨⟨Or.inr (by first | exact ⟨rfl, pR_B _ (by decide)⟩ | exact ⟨rfl, uR_B (by decide) (by decide)⟩), Or.inr rfl, Or.inr trivial, Or.inr rfl, Or.inr trivial, Or.inr trivial, Or.inr trivial, Or.inr trivial, Or.inr trivial, Or.inr trivial, Or.inr trivial, Or.inr trivial, Or.inr trivial, Or.inr trivial, Or.inr trivial, Or.inr trivial, Or.inr trivial, Or.inr trivial, Or.inr trivial, Or.inr trivial, Or.inr trivial, Or.inr trivial, Or.inl rfl, Or.inl rfl, trivial⟩, rfl, rfl, rfl, Nat.le_of_ble_eq_true rfl⟩ rfl zC5 rfl rfl dX1_grow_36 (fun r_36 w_36 hp => ?_) (fun _ _ h => h.elim)
        obtain ⟨rfl, rfl⟩ := hp
        rw [hLe]
        refine z_weq (w' := [zPl _ _, zO _ [zr _ _, zr _ _, zr _ _, zr _ _, zr _ _, zi _, zi _, zr _ _, zr _ _], zH, zO _ [zr _ _, zi _, zi _, zi _], zAi 0 24 _, zH, zH, zH, zH, zH, zH, zH, zH, zH, zH, zH, zH, zH, zH, zH, zH, zH, zO _ [zi _, zi _, zr _ _], zAi 0 24 _, zAi 0 L _]) rfl ?_
        refine z_seq (S' := zr _ _ :: _) rfl ?_
        refine z_astore F dX1_grow_39 (Nat.le_of_ble_eq_true rfl) ?_
        refine z_leq (L' := [_, _, _, _, _, _, _, _, _, _, _, _, _]) rfl ?_
        refine z_new F 25 [zi 0, zi 0, zn] zC5 q151 q232 q116 (fun _ j hj => by match j, hj with | 0, _ => rfl | 1, _ => rfl | 2, _ => rfl) rfl (Nat.le_of_ble_eq_true rfl) (Nat.le_of_ble_eq_true rfl) ⟨(by first | exact pR_N _ (Nat.le_of_ble_eq_true rfl) | exact uR_N (Nat.le_of_ble_eq_true rfl) (Nat.le_of_ble_eq_true rfl)), rfl, trivial, rfl, trivial, trivial, trivial, trivial, trivial, trivial, trivial, trivial, trivial, trivial, trivial, trivial, trivial, trivial, trivial, trivial, trivial, trivial, rfl, trivial, trivial, trivial⟩ rfl rfl ⟨by omega, by omega⟩ dX1_grow_41 ?_
        refine z_weq (w' := [_, _, _, _, _, _, _, _, _, _, _, _, _, _, _, _, _, _, _, _, _, _, _, _, _, _]) rfl ?_
        refine z_dup F dX1_grow_44 rfl ?_
        refine z_aload_n F dX1_grow_45 rfl ?_
        refine z_getN F zC5 (f := 0) rfl (Nat.le_of_ble_eq_true rfl) q245 rfl dX1_grow_46 ?_
        refine z_iconst F (nI 1) dX1_grow_49 rfl ?_
        refine z_iaddN F dX1_grow_50 ?_
        refine z_aload_n F dX1_grow_51 rfl ?_
        refine z_getN F zC5 (f := 1) rfl (Nat.le_of_ble_eq_true rfl) q248 rfl dX1_grow_52 ?_
        refine z_iconst F (nI 2) dX1_grow_55 rfl ?_
        refine z_iload_n F dX1_grow_56 rfl ?_
        refine z_imulN F dX1_grow_57 ?_
        refine z_mmax F q771 dX1_grow_58 (Nat.le_of_ble_eq_true rfl) rfl (Nat.le_of_ble_eq_true rfl) ⟨by omega, by omega⟩ ?_
        refine z_ieq (mmaxN (by omega) (by omega)) ?_
        refine z_callI F (c_netInit (nI (n + 1)) (nI (max d 4))) 2 rfl (lw_meth q235) q116 q356 q234 rfl (by decide +kernel) ⟨Nat.le_of_ble_eq_true rfl, Nat.le_of_ble_eq_true rfl⟩ ⟨by omega, by omega⟩ [0, 25] 26 ⟨rfl, rfl, rfl, ⟨Or.inl rfl, Or.inr rfl, trivial⟩⟩ (fun h => nomatch h) (Nat.le_of_ble_eq_true rfl) ⟨⟨Or.inr (by first | exact ⟨rfl, pR_B _ (by decide)⟩ | exact ⟨rfl, uR_B (by decide) (by decide)⟩), Or.inr rfl, Or.inr trivial, Or.inr rfl, Or.inr trivial, Or.inr trivial, Or.inr trivial, Or.inr trivial, Or.inr trivial, Or.inr trivial, Or.inr trivial, Or.inr trivial, Or.inr trivial, Or.inr trivial, Or.inr trivial, Or.inr trivial, Or.inr trivial, Or.inr trivial, Or.inr trivial, Or.inr trivial, Or.inr trivial, Or.inr trivial, Or.inr rfl, Or.inr trivial, Or.inr trivial, Or.inl rfl, trivial⟩, rfl, rfl, rfl, Nat.le_of_ble_eq_true rfl⟩ rfl rfl dX1_grow_61 (fun r_61 w_61 hp => ?_) (fun _ _ h => h.elim)
        obtain ⟨rfl, rfl⟩ := hp
        refine z_weq (w' := [zPl _ _, zO _ [zr _ _, zr _ _, zr _ _, zr _ _, zr _ _, zi _, zi _, zr _ _, zr _ _], zH, zO _ [zr _ _, zi _, zi _, zi _], zAi 0 24 _, zH, zH, zH, zH, zH, zH, zH, zH, zH, zH, zH, zH, zH, zH, zH, zH, zH, zO _ [zi _, zi _, zr _ _], zAi 0 24 _, zAi 0 L _, zO _ [zi _, zi _, zr _ _], zAi 0 24 _]) rfl ?_
        refine z_seq (S' := [_]) rfl ?_
        refine z_astore F dX1_grow_64 (Nat.le_of_ble_eq_true rfl) ?_
        refine z_leq (L' := [_, _, _, _, _, _, _, _, _, _, _, _, _]) rfl ?_
        refine z_iconst F (-1) dX1_grow_66 rfl ?_
        refine z_istore F dX1_grow_67 (Nat.le_of_ble_eq_true rfl) ?_
        refine z_leq (L' := [_, _, _, _, _, _, _, _, _, _, _, _, _]) rfl ?_
        refine z_iconst F (-1) dX1_grow_69 rfl ?_
        refine z_istore F dX1_grow_70 (Nat.le_of_ble_eq_true rfl) ?_
        refine z_leq (L' := [_, _, _, _, _, _, _, _, _, _, _, _, _]) rfl ?_
        refine z_iconst F (nI 0) dX1_grow_72 rfl ?_
        refine z_istore F dX1_grow_73 (Nat.le_of_ble_eq_true rfl) ?_
        refine z_leq (L' := [_, _, _, _, _, _, _, _, _, _, _, _, _]) rfl ?_
        refine z_iconst F (nI 0) dX1_grow_75 rfl ?_
        refine z_istore F dX1_grow_76 (Nat.le_of_ble_eq_true rfl) ?_
        refine z_leq (L' := [_, _, _, _, _, _, _, _, _, _, _, _, _]) rfl ?_
        refine z_widen (k' := 5) (n' := 139) (by omega) (by omega) ?_
        exact loop _ 0 sn0 g0 sm0 D _ (Nat.lt_succ_self _) (by omega) (fun _ _ _ => rfl)
      · exact absurd c_30 (by omega)
theorem c_pgrow_bad (P : zPt) (t : Nat) (fp : Int32) (j n d : Nat) (f : Nat → Int32) (x : Int32) (hj : j < 8) (hP : P j = some (nI n, nI d, f)) (hx : ∀ i, 1 ≤ i → i ≤ 2 → x ≠ nI i) : zCtr yX1_grow cX1_grow 13 (some .int) 8 6 160 [zr 1 0, zi (nI j), zi x] (xH P t fp) (fun r w => False) (fun E w => E = eIAE ∧ True ∧ w = xH P t fp) := by
  refine z_start (by decide) [some (zr 1 0), some (zi (nI j)), some (zi x), none, none, none, none, none, none, none, none, none, none] rfl (fun _ => Nat.le_of_ble_eq_true rfl) (fun _ => rfl) (fun X F E hno hin => ?_)
  refine z_aload_n F dX1_grow_0 rfl ?_
  refine z_iload_n F dX1_grow_1 rfl ?_
  refine z_callV F (c_netAt_ok P t fp j hj hP) 1 rfl (lw_V q429 q431 qs0 q109 q432) (by decide +kernel) ⟨Nat.le_of_ble_eq_true rfl, Nat.le_of_ble_eq_true rfl⟩ ⟨by omega, by omega⟩ [0, 1, 2, 3, 4, 5, 6, 7, 8, 9, 10, 11, 12, 13, 14, 15, 16, 17, 18, 19, 20, 21] 22 ⟨rfl, rfl, rfl, ⟨Or.inr (congrArg some (zrnP rfl).symm), Or.inr rfl, Or.inl rfl, Or.inl rfl, Or.inl rfl, Or.inl rfl, Or.inl rfl, Or.inl rfl, Or.inl rfl, Or.inl rfl, Or.inl rfl, Or.inl rfl, Or.inl rfl, Or.inl rfl, Or.inl rfl, Or.inl rfl, Or.inl rfl, Or.inl rfl, Or.inl rfl, Or.inl rfl, Or.inl rfl, Or.inl rfl, trivial⟩⟩ (fun _ => rfl) (Nat.le_of_ble_eq_true rfl) ⟨⟨Or.inl rfl, Or.inl rfl, Or.inr trivial, Or.inr trivial, Or.inr trivial, Or.inr trivial, Or.inr trivial, Or.inr trivial, Or.inr trivial, Or.inr trivial, Or.inr trivial, Or.inr trivial, Or.inr trivial, Or.inr trivial, Or.inr trivial, Or.inr trivial, Or.inr trivial, Or.inr trivial, Or.inr trivial, Or.inr trivial, Or.inr trivial, Or.inr trivial, trivial⟩, rfl, rfl, rfl, Nat.le_of_ble_eq_true rfl⟩ rfl zC1 rfl rfl dX1_grow_2 (fun r_2 w_2 hp => ?_) (fun _ _ h => h.elim)
  obtain ⟨rfl, rfl⟩ := hp
  refine z_weq (w' := zPl (pR _) _ :: _) (congrArg (fun z => z :: _) (zrnP rfl)) ?_
  refine z_weq (w' := [zPl _ _, zO _ [zr _ _, zr _ _, zr _ _, zr _ _, zr _ _, zi _, zi _, zr _ _, zr _ _], zH, zH, zH, zH, zH, zH, zH, zH, zH, zH, zH, zH, zH, zH, zH, zH, zH, zH, zH, zH]) rfl ?_
  refine z_seq (S' := zr _ _ :: _) rfl ?_
  refine z_astore_n F dX1_grow_5 (Nat.le_of_ble_eq_true rfl) ?_
  refine z_leq (L' := [_, _, _, _, _, _, _, _, _, _, _, _, _]) rfl ?_
  refine z_iload_n F dX1_grow_6 rfl ?_
  refine z_iconst F (nI 1) dX1_grow_7 rfl ?_
  refine z_icmp_eq F (tgt := 16) dX1_grow_8 (by decide) (fun c_8 => ?_) (fun c_8 => ?_)
  · exact absurd c_8 (hx 1 (by omega) (by omega))
  · refine z_iload_n F dX1_grow_11 rfl ?_
    refine z_iconst F (nI 2) dX1_grow_12 rfl ?_
    refine z_icmp_ne F (tgt := 20) dX1_grow_13 (by decide) (fun c_13 => ?_) (fun c_13 => ?_)
    · refine z_iconstB F false dX1_grow_20 rfl ?_
      refine z_callS F (c_rgt false) 1 rfl (lw_S q538 q539 q109 q540) (by decide +kernel) ⟨Nat.le_of_ble_eq_true rfl, Nat.le_of_ble_eq_true rfl⟩ ⟨by omega, by omega⟩ [0] 22 ⟨rfl, rfl, rfl, ⟨Or.inl rfl, trivial⟩⟩ (fun h => nomatch h) (Nat.le_of_ble_eq_true rfl) ⟨⟨Or.inr (by first | exact ⟨rfl, pR_B _ (by decide)⟩ | exact ⟨rfl, uR_B (by decide) (by decide)⟩), Or.inr rfl, Or.inr trivial, Or.inr trivial, Or.inr trivial, Or.inr trivial, Or.inr trivial, Or.inr trivial, Or.inr trivial, Or.inr trivial, Or.inr trivial, Or.inr trivial, Or.inr trivial, Or.inr trivial, Or.inr trivial, Or.inr trivial, Or.inr trivial, Or.inr trivial, Or.inr trivial, Or.inr trivial, Or.inr trivial, Or.inr trivial, trivial⟩, rfl, rfl, rfl, Nat.le_of_ble_eq_true rfl⟩ rfl rfl dX1_grow_21 (fun r_21 w_21 hp => ?_) (fun E_ w_ hx => by obtain ⟨rfl, -, rfl⟩ := hx; exact zx_out F E hno (by omega) (by omega) ⟨rfl, trivial, rfl⟩)
      exact nomatch hp.2.1
    · exact absurd c_13 (hx 2 (by omega) (by omega))
theorem c_pgrow_full (P : zPt) (t : Nat) (fp : Int32) (j d p : Nat) (f : Nat → Int32) (hj : j < 8) (hP : P j = some (nI 24, nI d, f)) (hp1 : 1 ≤ p) (hp2 : p ≤ 2) : zCtr yX1_grow cX1_grow 13 (some .int) 8 6 160 [zr 1 0, zi (nI j), zi (nI p)] (xH P t fp) (fun r w => r = some (zi (-1)) ∧ w = xH P t fp) zNx := by
  refine z_start (by decide) [some (zr 1 0), some (zi (nI j)), some (zi (nI p)), none, none, none, none, none, none, none, none, none, none] rfl (fun _ => Nat.le_of_ble_eq_true rfl) (fun _ => rfl) (fun X F E hno hin => ?_)
  refine z_aload_n F dX1_grow_0 rfl ?_
  refine z_iload_n F dX1_grow_1 rfl ?_
  refine z_callV F (c_netAt_ok P t fp j hj hP) 1 rfl (lw_V q429 q431 qs0 q109 q432) (by decide +kernel) ⟨Nat.le_of_ble_eq_true rfl, Nat.le_of_ble_eq_true rfl⟩ ⟨by omega, by omega⟩ [0, 1, 2, 3, 4, 5, 6, 7, 8, 9, 10, 11, 12, 13, 14, 15, 16, 17, 18, 19, 20, 21] 22 ⟨rfl, rfl, rfl, ⟨Or.inr (congrArg some (zrnP rfl).symm), Or.inr rfl, Or.inl rfl, Or.inl rfl, Or.inl rfl, Or.inl rfl, Or.inl rfl, Or.inl rfl, Or.inl rfl, Or.inl rfl, Or.inl rfl, Or.inl rfl, Or.inl rfl, Or.inl rfl, Or.inl rfl, Or.inl rfl, Or.inl rfl, Or.inl rfl, Or.inl rfl, Or.inl rfl, Or.inl rfl, Or.inl rfl, trivial⟩⟩ (fun _ => rfl) (Nat.le_of_ble_eq_true rfl) ⟨⟨Or.inl rfl, Or.inl rfl, Or.inr trivial, Or.inr trivial, Or.inr trivial, Or.inr trivial, Or.inr trivial, Or.inr trivial, Or.inr trivial, Or.inr trivial, Or.inr trivial, Or.inr trivial, Or.inr trivial, Or.inr trivial, Or.inr trivial, Or.inr trivial, Or.inr trivial, Or.inr trivial, Or.inr trivial, Or.inr trivial, Or.inr trivial, Or.inr trivial, trivial⟩, rfl, rfl, rfl, Nat.le_of_ble_eq_true rfl⟩ rfl zC1 rfl rfl dX1_grow_2 (fun r_2 w_2 hp => ?_) (fun _ _ h => h.elim)
  obtain ⟨rfl, rfl⟩ := hp
  refine z_weq (w' := zPl (pR _) _ :: _) (congrArg (fun z => z :: _) (zrnP rfl)) ?_
  refine z_weq (w' := [zPl _ _, zO _ [zr _ _, zr _ _, zr _ _, zr _ _, zr _ _, zi _, zi _, zr _ _, zr _ _], zH, zH, zH, zH, zH, zH, zH, zH, zH, zH, zH, zH, zH, zH, zH, zH, zH, zH, zH, zH]) rfl ?_
  refine z_seq (S' := zr _ _ :: _) rfl ?_
  refine z_astore_n F dX1_grow_5 (Nat.le_of_ble_eq_true rfl) ?_
  refine z_leq (L' := [_, _, _, _, _, _, _, _, _, _, _, _, _]) rfl ?_
  refine z_foc F j hj hP (N := 22) (M := 23) (L' := [_, _, _, some (zr 22 0), _, _, _, _, _, _, _, _, _]) (S' := []) rfl rfl (Nat.le_of_ble_eq_true rfl) ⟨rfl, trivial, trivial, trivial, trivial, trivial, trivial, trivial, trivial, trivial, trivial, trivial, trivial, trivial, trivial, trivial, trivial, trivial, trivial, trivial, trivial, trivial⟩ ⟨Or.inl rfl, Or.inl rfl, Or.inl rfl, Or.inr ⟨rfl, rfl⟩, Or.inl rfl, Or.inl rfl, Or.inl rfl, Or.inl rfl, Or.inl rfl, Or.inl rfl, Or.inl rfl, Or.inl rfl, Or.inl rfl, trivial⟩ rfl trivial rfl ?_
  refine z_weq (w' := [zPl _ _, zO _ [zr _ _, zr _ _, zr _ _, zr _ _, zr _ _, zi _, zi _, zr _ _, zr _ _], zH, zH, zH, zH, zH, zH, zH, zH, zH, zH, zH, zH, zH, zH, zH, zH, zH, zH, zH, zH, zO _ [zi _, zi _, zr _ _], zAi 0 24 _]) rfl ?_
  refine z_iload_n F dX1_grow_6 rfl ?_
  refine z_iconst F (nI 1) dX1_grow_7 rfl ?_
  refine z_icmp_eqN F (by omega) (by omega) (tgt := 16) dX1_grow_8 (by decide) (fun c_8 => ?_) (fun c_8 => ?_)
  · refine z_iconstB F true dX1_grow_16 rfl ?_
    refine z_goto F (tgt := 21) dX1_grow_17 (by decide) ?_
    refine z_callS F (c_rgt true) 1 rfl (lw_S q538 q539 q109 q540) (by decide +kernel) ⟨Nat.le_of_ble_eq_true rfl, Nat.le_of_ble_eq_true rfl⟩ ⟨by omega, by omega⟩ [0] 24 ⟨rfl, rfl, rfl, ⟨Or.inl rfl, trivial⟩⟩ (fun h => nomatch h) (Nat.le_of_ble_eq_true rfl) ⟨⟨Or.inr (by first | exact ⟨rfl, pR_B _ (by decide)⟩ | exact ⟨rfl, uR_B (by decide) (by decide)⟩), Or.inr rfl, Or.inr trivial, Or.inr trivial, Or.inr trivial, Or.inr trivial, Or.inr trivial, Or.inr trivial, Or.inr trivial, Or.inr trivial, Or.inr trivial, Or.inr trivial, Or.inr trivial, Or.inr trivial, Or.inr trivial, Or.inr trivial, Or.inr trivial, Or.inr trivial, Or.inr trivial, Or.inr trivial, Or.inr trivial, Or.inr trivial, Or.inr rfl, Or.inr trivial, trivial⟩, rfl, rfl, rfl, Nat.le_of_ble_eq_true rfl⟩ rfl rfl dX1_grow_21 (fun r_21 w_21 hp => ?_) (fun E_ w_ hx => by obtain ⟨-, hb, -⟩ := hx; cases hb)
    obtain ⟨rfl, -, rfl⟩ := hp
    refine z_weq (w' := [zPl _ _, zO _ [zr _ _, zr _ _, zr _ _, zr _ _, zr _ _, zi _, zi _, zr _ _, zr _ _], zH, zH, zH, zH, zH, zH, zH, zH, zH, zH, zH, zH, zH, zH, zH, zH, zH, zH, zH, zH, zO _ [zi _, zi _, zr _ _], zAi 0 24 _]) rfl ?_
    refine z_seq (S' := []) rfl ?_
    refine z_aload_n F dX1_grow_24 rfl ?_
    refine z_getN F zC5 (f := 0) rfl (Nat.le_of_ble_eq_true rfl) q245 rfl dX1_grow_25 ?_
    refine z_bipush F (nI 24) dX1_grow_28 rfl ?_
    refine z_icmp_neN F (by omega) (by omega) (tgt := 35) dX1_grow_30 (by decide) (fun c_30 => ?_) (fun c_30 => ?_)
    · exact absurd c_30 (by omega)
    · refine z_iconst F (-1) dX1_grow_33 rfl ?_
      refine z_loc [some _, some _, some _, none, none, none, none, none, none, none, none, none, none] ⟨rfl, rfl, rfl, trivial⟩ ?_
      refine z_unfocus F rfl j 22 23 22 hj zput_self rfl rfl (Nat.le_of_ble_eq_true rfl) (Nat.le_of_ble_eq_true rfl) (Nat.le_of_ble_eq_true rfl) (Nat.le_of_ble_eq_true rfl) [zO _ [zr _ _, zr _ _, zr _ _, zr _ _, zr _ _, zi _, zi _, zr _ _, zr _ _], zH, zH, zH, zH, zH, zH, zH, zH, zH, zH, zH, zH, zH, zH, zH, zH, zH, zH, zH, zH] rfl ⟨rfl, trivial, trivial, trivial, trivial, trivial, trivial, trivial, trivial, trivial, trivial, trivial, trivial, trivial, trivial, trivial, trivial, trivial, trivial, trivial, trivial, trivial⟩ uOK rfl rfl ?_
      refine z_weq (w' := zPl (pR (zput P j (some _))) (zput P j (some _)) :: _) (congrArg (fun z => z :: _) uPl2) ?_
      exact z_iret F E rfl dX1_grow_34 (by omega) (by omega) (⟨rfl, by rw [zput_some hP]; rfl⟩)
  · refine z_iload_n F dX1_grow_11 rfl ?_
    refine z_iconst F (nI 2) dX1_grow_12 rfl ?_
    refine z_icmp_neN F (by omega) (by omega) (tgt := 20) dX1_grow_13 (by decide) (fun c_13 => ?_) (fun c_13 => ?_)
    · exact absurd c_13 (by omega)
    · refine z_iconstB F true dX1_grow_16 rfl ?_
      refine z_goto F (tgt := 21) dX1_grow_17 (by decide) ?_
      refine z_callS F (c_rgt true) 1 rfl (lw_S q538 q539 q109 q540) (by decide +kernel) ⟨Nat.le_of_ble_eq_true rfl, Nat.le_of_ble_eq_true rfl⟩ ⟨by omega, by omega⟩ [0] 24 ⟨rfl, rfl, rfl, ⟨Or.inl rfl, trivial⟩⟩ (fun h => nomatch h) (Nat.le_of_ble_eq_true rfl) ⟨⟨Or.inr (by first | exact ⟨rfl, pR_B _ (by decide)⟩ | exact ⟨rfl, uR_B (by decide) (by decide)⟩), Or.inr rfl, Or.inr trivial, Or.inr trivial, Or.inr trivial, Or.inr trivial, Or.inr trivial, Or.inr trivial, Or.inr trivial, Or.inr trivial, Or.inr trivial, Or.inr trivial, Or.inr trivial, Or.inr trivial, Or.inr trivial, Or.inr trivial, Or.inr trivial, Or.inr trivial, Or.inr trivial, Or.inr trivial, Or.inr trivial, Or.inr trivial, Or.inr rfl, Or.inr trivial, trivial⟩, rfl, rfl, rfl, Nat.le_of_ble_eq_true rfl⟩ rfl rfl dX1_grow_21 (fun r_21 w_21 hp => ?_) (fun E_ w_ hx => by obtain ⟨-, hb, -⟩ := hx; cases hb)
      obtain ⟨rfl, -, rfl⟩ := hp
      refine z_weq (w' := [zPl _ _, zO _ [zr _ _, zr _ _, zr _ _, zr _ _, zr _ _, zi _, zi _, zr _ _, zr _ _], zH, zH, zH, zH, zH, zH, zH, zH, zH, zH, zH, zH, zH, zH, zH, zH, zH, zH, zH, zH, zO _ [zi _, zi _, zr _ _], zAi 0 24 _]) rfl ?_
      refine z_seq (S' := []) rfl ?_
      refine z_aload_n F dX1_grow_24 rfl ?_
      refine z_getN F zC5 (f := 0) rfl (Nat.le_of_ble_eq_true rfl) q245 rfl dX1_grow_25 ?_
      refine z_bipush F (nI 24) dX1_grow_28 rfl ?_
      refine z_icmp_neN F (by omega) (by omega) (tgt := 35) dX1_grow_30 (by decide) (fun c_30 => ?_) (fun c_30 => ?_)
      · exact absurd c_30 (by omega)
      · refine z_iconst F (-1) dX1_grow_33 rfl ?_
        refine z_loc [some _, some _, some _, none, none, none, none, none, none, none, none, none, none] ⟨rfl, rfl, rfl, trivial⟩ ?_
        refine z_unfocus F rfl j 22 23 22 hj zput_self rfl rfl (Nat.le_of_ble_eq_true rfl) (Nat.le_of_ble_eq_true rfl) (Nat.le_of_ble_eq_true rfl) (Nat.le_of_ble_eq_true rfl) [zO _ [zr _ _, zr _ _, zr _ _, zr _ _, zr _ _, zi _, zi _, zr _ _, zr _ _], zH, zH, zH, zH, zH, zH, zH, zH, zH, zH, zH, zH, zH, zH, zH, zH, zH, zH, zH, zH] rfl ⟨rfl, trivial, trivial, trivial, trivial, trivial, trivial, trivial, trivial, trivial, trivial, trivial, trivial, trivial, trivial, trivial, trivial, trivial, trivial, trivial, trivial, trivial⟩ uOK rfl rfl ?_
        refine z_weq (w' := zPl (pR (zput P j (some _))) (zput P j (some _)) :: _) (congrArg (fun z => z :: _) uPl2) ?_
        exact z_iret F E rfl dX1_grow_34 (by omega) (by omega) (⟨rfl, by rw [zput_some hP]; rfl⟩)
end C65
