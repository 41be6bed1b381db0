/-! grow: the reference -/
section C66
def bI1 (s : MS) : Int32 := match s with
  | none => -1
  | some q => nI q.1
def bI2 (s : MS) : Int32 := match s with
  | none => -1
  | some q => nI q.2.1
theorem gv_1 {s : MS} {a b v : Nat} (h : ∀ q, s = some q → q.2.2 ≤ 1000000) (e : gvI s = -1) : msx s a b v = some (a, b, v) := by
  cases s with
  | none => rfl
  | some q => have := h q rfl; exact absurd e (nI_ne (by omega))
theorem gv_2 {s : MS} {a b v : Nat} (h : ∀ q, s = some q → q.2.2 ≤ 1000000) (hv : v < 2 ^ 31) (e : ¬ gvI s = -1) (h2 : nI v < gvI s) : msx s a b v = some (a, b, v) := by
  cases s with
  | none => rfl
  | some q =>
    have h3 := h q rfl
    have h4 : nI v < nI q.2.2 := h2
    exact if_pos ((nI_ltI hv (by omega)).mp h4)
theorem gv_3 {s : MS} {a b v : Nat} (h : ∀ q, s = some q → q.2.2 ≤ 1000000) (hv : v < 2 ^ 31) (e : ¬ gvI s = -1) (h2 : ¬ nI v < gvI s) : msx s a b v = s := by
  cases s with
  | none => exact absurd rfl e
  | some q =>
    have h3 := h q rfl
    have h4 : ¬ nI v < nI q.2.2 := h2
    exact if_neg fun z => h4 ((nI_ltI hv (by omega)).mpr z)
set_option maxHeartbeats 8000000 in
theorem c_mgrow1_ok (F0 : Nat → Int32) (G : Nat → Int64) (A : Nat → Nat → Int32) (B : Nat → Nat → Int64) (j n d : Nat) (f : Nat → Int32) (hj : j < 8) (h : nok n d f) (hn : n < 24) (hs : Slt A j n (nI d) f) :
    zCtr yX6_grow cX6_grow 9 (some .int) 3 0 0 [zr 1 0, zi (nI j), zi (nI 1)] [zH, zG F0 G A B] (fun r w => r = some (zi (gvI (ga1 n f (prs n f).length))) ∧ ∃ F' A', w = [zH, zG F' G A' B] ∧ F' 0 = nI 0 ∧ frm [0, 4, 5, 20, 24, 25] F0 F' ∧ frm [1, 2, 3, 6, 21, 22, 23] A A' ∧ (∀ q, ga1 n f (prs n f).length = some q → Slt A' j (n + 1) (nI (max d 2)) (gw1 n f q.1)) ∧ (ga1 n f (prs n f).length = none → SltEq A A' j) ∧ ∀ i, i < 8 → i ≠ j → SltEq A A' i) zNx := by
  refine z_start (by decide) [some (zr 1 0), some (zi (nI j)), some (zi (nI 1)), none, none, none, none, none, none] rfl (fun _ => Nat.le_of_ble_eq_true rfl) (fun _ => rfl) (fun X F E hno hin => ?_)
  have h1 := h.n1
  have h24 := h.n24
  have hd8 := h.d8
  have h96 := prs_96 h
  have hfz : f n = nI 0 := h.zero (Nat.le_refl _) hn
  have g1ok := fun i (hi : i < (prs n f).length) => gw1_ok (d' := max d 2) h hn (by omega) (by omega) (by omega) hi
  generalize hLe : (prs n f).length = L at *
  have hat : ∀ i, i < L → la (prs n f) i < lb (prs n f) i ∧ lb (prs n f) i < n := fun i hi => by
    have := prs_at (show i < (prs n f).length by omega)
    exact ⟨this.1, this.2.1⟩
  have hen : ∀ (A1 : Nat → Nat → Int32), LnE A1 (prs n f) → ∀ i, i < L → A1 21 i = nI (la (prs n f) i) ∧ A1 22 i = nI (lb (prs n f) i) := fun A1 hE i hi => hE i (by omega)
  have hvb : ∀ s, gok n f false s → ∀ q, s = some q → q.2.2 ≤ 1000000 := fun s hs q hq => (hs q hq).2.2.1
  have J : ∀ (F1 : Nat → Int32) (A1 : Nat → Nat → Int32), F1 0 = nI 0 → F1 4 = nI (n + 1) → F1 5 = nI d → F1 20 = nI L → frm [0, 4, 5, 20, 24, 25] F0 F1 → frm [6, 21, 22, 23] A A1 → LnE A1 (prs n f) → (∀ k, k < 24 → A1 6 k = f k) → Z X [some (zr 1 0), some (zi (nI j)), some (zi (nI 1)), some (zi (gvI (ga1 n f L))), some (zi (bI1 (ga1 n f L))), some (zi (bI1 (ga1 n f L))), some (zi (nI L)), none, none] [] [zH, zG F1 G A1 B] 0 0 227 := by
    intro F1 A1 g0 g4 g5 g20 hF hA hE hf1
    have hok := ga1_ok (f := f) hn L (by omega)
    rcases hq : ga1 n f L with _ | q
    ·
      refine z_iload_n F dX6_grow_227 rfl ?_
      refine z_iconst F (-1) dX6_grow_228 rfl ?_
      refine z_icmp_ne F (tgt := 234) dX6_grow_229 (by decide) (fun c_229 => ?_) (fun c_229 => ?_)
      · exact absurd rfl c_229
      · refine z_iconst F (-1) dX6_grow_232 rfl ?_
        exact z_iret F E rfl dX6_grow_233 (by omega) (by omega) (⟨by rw [hq]; rfl, F1, A1, rfl, g0, hF, hA.to (by decide), fun q z => (by rw [hq] at z; cases z), fun _ => SltEq.of6 hA (by decide), fun i hi hne => SltEq.of6 hA (by decide)⟩)
    · obtain ⟨q1, q2, q3, q4⟩ := hok q hq
      have a1 := hat q.1 (by omega)
      have a2 := hat q.2.1 (by omega)
      have e1 := hen A1 hE q.1 (by omega)
      have e2 := hen A1 hE q.2.1 (by omega)
      have K : ∀ x : Nat, x = max d 2 → Z X [some (zr 1 0), some (zi (nI j)), some (zi (nI 1)), some (zi (nI q.2.2)), some (zi (nI q.1)), some (zi (nI q.1)), some (zi (nI L)), none, none] [zi (nI x), zr 1 0] [zH, zG F1 G (fA A1 6 (gr1 (A1 6) n (la (prs n f) q.1) (lb (prs n f) q.1))) B] 0 0 274 := by
        intro x hx
        subst hx
        refine z_pmi F rfl 5 rfl (Nat.le_of_ble_eq_true rfl) rfl q1485 rfl rfl rfl dX6_grow_274 ?_
        refine z_weq (w' := [_, _]) rfl ?_
        refine z_aload_n F dX6_grow_277 rfl ?_
        refine z_iload_n F dX6_grow_278 rfl ?_
        refine z_callV F (c_keeps (upd F1 5 (nI (max d 2))) _ _ _ j (n + 1) (nI (max d 2)) (gw1 n f q.1) hj ⟨g4, rfl, fun k hk => by rw [fA_at]; exact gr1_cong hf1 hn (by omega) (by omega) k hk⟩) 1 rfl (lw_V q1724 q1726 qs41 q117 q1727) (by decide +kernel) ⟨Nat.le_of_ble_eq_true rfl, Nat.le_of_ble_eq_true rfl⟩ ⟨by omega, by omega⟩ [0, 1] 2 ⟨rfl, rfl, rfl, ⟨Or.inl rfl, Or.inr rfl, trivial⟩⟩ (fun h => nomatch h) (Nat.le_of_ble_eq_true rfl) ⟨⟨Or.inr trivial, Or.inl rfl, trivial⟩, rfl, rfl, rfl, Nat.le_of_ble_eq_true rfl⟩ rfl zC6 (zat_G0 rfl) rfl dX6_grow_279 (fun r_279 w_279 hp => ?_) (fun _ _ h => h.elim)
        obtain ⟨rfl, A3, rfl, b1, b2, b3⟩ := hp
        refine z_weq (w' := [zH, zG _ _ _ _]) rfl ?_
        refine z_seq (S' := []) rfl ?_
        refine z_iload_n F dX6_grow_282 rfl ?_
        exact z_iret F E rfl dX6_grow_283 (by omega) (by omega) (⟨by rw [hq]; rfl, _, A3, rfl, g0, frm_upd hF (by decide), (hA.tr (frm_fA (l := [6]) frm.rf (by decide)) (l2 := [6, 21, 22, 23]) (by decide) (by decide)).tr b1 (by decide) (by decide), fun q' z => (by rw [hq] at z; cases z; exact b2), fun z => (by rw [hq] at z; cases z), fun i hi hne => ((SltEq.of6 hA (by decide)).tr (SltEq.of6 (frm_fA (l := [6]) frm.rf (by decide)) (by decide))).tr (b3 i hi hne)⟩)
      refine z_leq (L' := [some (zr 1 0), some (zi (nI j)), some (zi (nI 1)), some (zi (nI q.2.2)), some (zi (nI q.1)), some (zi (nI q.1)), some (zi (nI L)), none, none]) rfl ?_
      refine z_iload_n F dX6_grow_227 rfl ?_
      refine z_iconst F (-1) dX6_grow_228 rfl ?_
      refine z_icmp_ne F (tgt := 234) dX6_grow_229 (by decide) (fun c_229 => ?_) (fun c_229 => ?_)
      · refine z_aload_n F dX6_grow_234 rfl ?_
        refine z_iload F dX6_grow_235 rfl ?_
        refine z_iconst F (nI 0) dX6_grow_237 rfl ?_
        refine z_callV F (c_mpull F1 _ _ _ n q.1 (la (prs n f) q.1) (lb (prs n f) q.1) hn (by omega) g4 e1.1 e1.2 (by omega) (by omega)) 2 rfl (lw_V q2155 q2157 qs107 q117 q2158) (by decide +kernel) ⟨Nat.le_of_ble_eq_true rfl, Nat.le_of_ble_eq_true rfl⟩ ⟨by omega, by omega⟩ [0, 1] 2 ⟨rfl, rfl, rfl, ⟨Or.inl rfl, Or.inr rfl, trivial⟩⟩ (fun h => nomatch h) (Nat.le_of_ble_eq_true rfl) ⟨⟨Or.inr trivial, Or.inl rfl, trivial⟩, rfl, rfl, rfl, Nat.le_of_ble_eq_true rfl⟩ rfl zC6 (zat_G0 rfl) rfl dX6_grow_238 (fun r_238 w_238 hp => ?_) (fun _ _ h => h.elim)
        obtain ⟨rfl, rfl⟩ := hp
        refine z_weq (w' := [zH, zG _ _ _ _]) rfl ?_
        refine z_seq (S' := []) rfl ?_
        refine z_iload_n F dX6_grow_241 rfl ?_
        refine z_iconst F (nI 2) dX6_grow_242 rfl ?_
        refine z_icmp_neN F (by omega) (by omega) (tgt := 253) dX6_grow_243 (by decide) (fun c_243 => ?_) (fun c_243 => ?_)
        · refine z_aload_n F dX6_grow_253 rfl ?_
          refine z_aload_n F dX6_grow_254 rfl ?_
          refine z_mi F rfl 5 rfl (Nat.le_of_ble_eq_true rfl) rfl q1485 dX6_grow_255 ?_
          refine z_ieq (g5) ?_
          refine z_iconst F (nI 2) dX6_grow_258 rfl ?_
          refine z_iload_n F dX6_grow_259 rfl ?_
          refine z_imulN F dX6_grow_260 ?_
          refine z_icmp_geN F (by omega) (by omega) (tgt := 270) dX6_grow_261 (by decide) (fun c_261 => ?_) (fun c_261 => ?_)
          · refine z_aload_n F dX6_grow_270 rfl ?_
            refine z_mi F rfl 5 rfl (Nat.le_of_ble_eq_true rfl) rfl q1485 dX6_grow_271 ?_
            refine z_ieq (g5) ?_
            exact K _ (by first | (rw [Nat.max_eq_right (by omega)]; done) | (rw [Nat.max_eq_left (by omega)]; done))
          · refine z_iconst F (nI 2) dX6_grow_264 rfl ?_
            refine z_iload_n F dX6_grow_265 rfl ?_
            refine z_imulN F dX6_grow_266 ?_
            refine z_goto F (tgt := 274) dX6_grow_267 (by decide) ?_
            exact K _ (by first | (rw [Nat.max_eq_right (by omega)]; done) | (rw [Nat.max_eq_left (by omega)]; done))
        · exact absurd c_243 (by omega)
      · exact absurd c_229 (nI_ne (by omega))
  have loop : ∀ (m i : Nat) (F1 : Nat → Int32) (A1 : Nat → Nat → Int32), L - i < m → i ≤ L → F1 0 = nI 0 → F1 4 = nI (n + 1) → F1 5 = nI d → F1 20 = nI L → frm [0, 4, 5, 20, 24, 25] F0 F1 → frm [6, 21, 22, 23] A A1 → LnE A1 (prs n f) → (∀ k, k < 24 → A1 6 k = f k) → Z X [some (zr 1 0), some (zi (nI j)), some (zi (nI 1)), some (zi (gvI (ga1 n f i))), some (zi (bI1 (ga1 n f i))), some (zi (bI1 (ga1 n f i))), some (zi (nI i)), none, none] [] [zH, zG F1 G A1 B] 0 0 81 := by
    intro m
    induction m with
    | zero => intro i F1 A1 hm; omega
    | succ m ih =>
      intro i F1 A1 hm hi g0 g4 g5 g20 hF hA hE hf1
      have hok := ga1_ok (f := f) hn i (by omega)
      have hvl := hvb _ hok
      have K2 : ∀ (s : MS) (F1 : Nat → Int32) (A1 : Nat → Nat → Int32), i < L → s = ga1 n f (i + 1) → F1 0 = nI 0 → F1 4 = nI (n + 1) → F1 5 = nI d → F1 20 = nI L → frm [0, 4, 5, 20, 24, 25] F0 F1 → frm [6, 21, 22, 23] A A1 → LnE A1 (prs n f) → (∀ k, k < 24 → A1 6 k = f k) → Z X [some (zr 1 0), some (zi (nI j)), some (zi (nI 1)), some (zi (gvI (s))), some (zi (bI1 (s))), some (zi (bI1 (s))), some (zi (nI i)), some (zi (nI (i + 1))), none] [] [zH, zG F1 G A1 B] 0 0 106 := by
        intro s F1 A1 hlt hs g0 g4 g5 g20 hF hA hE hf1
        subst hs
        refine z_iload F dX6_grow_106 rfl ?_
        refine z_iload_n F dX6_grow_108 rfl ?_
        refine z_iconst F (nI 1) dX6_grow_109 rfl ?_
        refine z_icmp_neN F (by omega) (by omega) (tgt := 120) dX6_grow_110 (by decide) (fun c_110 => ?_) (fun c_110 => ?_)
        · exact absurd c_110 (by omega)
        · refine z_iload F dX6_grow_113 rfl ?_
          refine z_iconst F (nI 1) dX6_grow_115 rfl ?_
          refine z_iaddN F dX6_grow_116 ?_
          refine z_goto F (tgt := 124) dX6_grow_117 (by decide) ?_
          refine z_icmp_geN F (by omega) (by omega) (tgt := 221) dX6_grow_124 (by decide) (fun c_124 => ?_) (fun c_124 => ?_)
          · refine z_iincN F 1 dX6_grow_221 rfl rfl ?_
            refine z_leq (L' := [_, _, _, _, _, _, _, _, _]) rfl ?_
            refine z_goto F (tgt := 81) dX6_grow_224 (by decide) ?_
            refine z_loc _ ?_ (ih (i + 1) F1 A1 (by omega) (by omega) g0 g4 g5 g20 hF hA hE hf1)
            exact ⟨rfl, rfl, rfl, rfl, rfl, rfl, rfl, trivial⟩
          · exact absurd c_124 (by omega)
      have K1 : i < L → Z X [some (zr 1 0), some (zi (nI j)), some (zi (nI 1)), some (zi (gvI (ga1 n f i))), some (zi (bI1 (ga1 n f i))), some (zi (bI1 (ga1 n f i))), some (zi (nI i)), some (zi (nI i)), none] [] [zH, zG F1 G A1 B] 0 0 106 := by
        intro hlt
        have a1 := hat i hlt
        obtain ⟨e1, e2⟩ := hen A1 hE i hlt
        obtain ⟨k1, k2, k3, k4⟩ := g1ok i hlt
        have hcb := cpr_bd (n := n + 1) (gw1 n f i) (by omega)
        have hpe := mpr_eq (n := n + 1) (f := gw1 n f i) (by omega) (fun a b ha hb => k1.sym ha hb)
        have hcg := gr1_cong hf1 hn (show la (prs n f) i < 24 by omega) (show lb (prs n f) i < 24 by omega)
        refine z_iload F dX6_grow_106 rfl ?_
        refine z_iload_n F dX6_grow_108 rfl ?_
        refine z_iconst F (nI 1) dX6_grow_109 rfl ?_
        refine z_icmp_neN F (by omega) (by omega) (tgt := 120) dX6_grow_110 (by decide) (fun c_110 => ?_) (fun c_110 => ?_)
        · exact absurd c_110 (by omega)
        · refine z_iload F dX6_grow_113 rfl ?_
          refine z_iconst F (nI 1) dX6_grow_115 rfl ?_
          refine z_iaddN F dX6_grow_116 ?_
          refine z_goto F (tgt := 124) dX6_grow_117 (by decide) ?_
          refine z_icmp_geN F (by omega) (by omega) (tgt := 221) dX6_grow_124 (by decide) (fun c_124 => ?_) (fun c_124 => ?_)
          · exact absurd c_124 (by omega)
          · refine z_iload_n F dX6_grow_127 rfl ?_
            refine z_iconst F (nI 2) dX6_grow_128 rfl ?_
            refine z_icmp_neN F (by omega) (by omega) (tgt := 146) dX6_grow_129 (by decide) (fun c_129 => ?_) (fun c_129 => ?_)
            · refine z_aload_n F dX6_grow_146 rfl ?_
              refine z_iload F dX6_grow_147 rfl ?_
              refine z_iconstB F false dX6_grow_149 rfl ?_
              refine z_callV F (c_mpull F1 _ _ _ n i (la (prs n f) i) (lb (prs n f) i) hn (by omega) g4 e1 e2 (by omega) (by omega)) 2 rfl (lw_V q2155 q2157 qs107 q117 q2158) (by decide +kernel) ⟨Nat.le_of_ble_eq_true rfl, Nat.le_of_ble_eq_true rfl⟩ ⟨by omega, by omega⟩ [0, 1] 2 ⟨rfl, rfl, rfl, ⟨Or.inl rfl, Or.inr rfl, trivial⟩⟩ (fun h => nomatch h) (Nat.le_of_ble_eq_true rfl) ⟨⟨Or.inr trivial, Or.inl rfl, trivial⟩, rfl, rfl, rfl, Nat.le_of_ble_eq_true rfl⟩ rfl zC6 (zat_G0 rfl) rfl dX6_grow_150 (fun r_150 w_150 hp => ?_) (fun _ _ h => h.elim)
              obtain ⟨rfl, rfl⟩ := hp
              refine z_weq (w' := [zH, zG _ _ _ _]) rfl ?_
              refine z_seq (S' := []) rfl ?_
              refine z_iload_n F dX6_grow_153 rfl ?_
              refine z_iconst F (nI 2) dX6_grow_154 rfl ?_
              refine z_icmp_neN F (by omega) (by omega) (tgt := 165) dX6_grow_155 (by decide) (fun c_155 => ?_) (fun c_155 => ?_)
              · refine z_aload_n F dX6_grow_165 rfl ?_
                refine z_callV F (c_mprice F1 _ _ _ (n + 1) (gw1 n f i) (by omega) g4 (fun k hk => by rw [fA_at]; exact hcg k (by omega))) 0 rfl (lw_V q1916 q1918 qs71 q117 q1919) (by decide +kernel) ⟨Nat.le_of_ble_eq_true rfl, Nat.le_of_ble_eq_true rfl⟩ ⟨by omega, by omega⟩ [0, 1] 2 ⟨rfl, rfl, rfl, ⟨Or.inl rfl, Or.inr rfl, trivial⟩⟩ (fun h => nomatch h) (Nat.le_of_ble_eq_true rfl) ⟨⟨Or.inr trivial, Or.inl rfl, trivial⟩, rfl, rfl, rfl, Nat.le_of_ble_eq_true rfl⟩ rfl zC6 (zat_G0 rfl) rfl dX6_grow_166 (fun r_166 w_166 hp => ?_) (fun _ _ h => h.elim)
                obtain ⟨rfl, F2, A2, rfl, b1, b2⟩ := hp
                rw [hpe]
                refine z_weq (w' := [zH, zG _ _ _ _]) rfl ?_
                refine z_seq (S' := zi _ :: _) rfl ?_
                refine z_istore F dX6_grow_169 (Nat.le_of_ble_eq_true rfl) ?_
                refine z_leq (L' := [_, _, _, _, _, _, _, _, _]) rfl ?_
                refine z_iload_n F dX6_grow_171 rfl ?_
                refine z_iconst F (nI 2) dX6_grow_172 rfl ?_
                refine z_icmp_neN F (by omega) (by omega) (tgt := 183) dX6_grow_173 (by decide) (fun c_173 => ?_) (fun c_173 => ?_)
                · refine z_aload_n F dX6_grow_183 rfl ?_
                  refine z_iload F dX6_grow_184 rfl ?_
                  refine z_iconstB F true dX6_grow_186 rfl ?_
                  refine z_callV F (c_mpullB F2 _ _ _ n i (la (prs n f) i) (lb (prs n f) i) hn (by omega) ((b1.at 4 rfl).trans g4) ((congrFun ((b2.at 21 rfl).trans (fA_ne (by decide))) _).trans e1) ((congrFun ((b2.at 22 rfl).trans (fA_ne (by decide))) _).trans e2) (by omega) (by omega)) 2 rfl (lw_V q2155 q2157 qs107 q117 q2158) (by decide +kernel) ⟨Nat.le_of_ble_eq_true rfl, Nat.le_of_ble_eq_true rfl⟩ ⟨by omega, by omega⟩ [0, 1] 2 ⟨rfl, rfl, rfl, ⟨Or.inl rfl, Or.inr rfl, trivial⟩⟩ (fun h => nomatch h) (Nat.le_of_ble_eq_true rfl) ⟨⟨Or.inr trivial, Or.inl rfl, trivial⟩, rfl, rfl, rfl, Nat.le_of_ble_eq_true rfl⟩ rfl zC6 (zat_G0 rfl) rfl dX6_grow_187 (fun r_187 w_187 hp => ?_) (fun _ _ h => h.elim)
                  obtain ⟨rfl, rfl⟩ := hp
                  have fin := (fun (s : MS) (hs : s = ga1 n f (i + 1)) => K2 s F2 (fA A2 6 (bk1 (A2 6) n (la (prs n f) i) (lb (prs n f) i))) hlt hs ((b1.at 0 rfl).trans g0) ((b1.at 4 rfl).trans g4) ((b1.at 5 rfl).trans g5) ((b1.at 20 rfl).trans g20) (hF.tr b1 (by decide) (by decide)) (((hA.tr (frm_fA (l := [6]) frm.rf (by decide)) (l2 := [6, 21, 22, 23]) (by decide) (by decide)).tr b2 (l2 := [6, 21, 22, 23]) (by decide) (by decide)).tr (frm_fA (l := [6]) frm.rf (by decide)) (by decide) (by decide)) (hE.to ((fA_ne (by decide)).trans ((b2.at 21 rfl).trans (fA_ne (by decide)))) ((fA_ne (by decide)).trans ((b2.at 22 rfl).trans (fA_ne (by decide))))) (fun k hk => by rw [fA_at, b2.at 6 rfl, fA_at]; exact (bk1_cong hcg hn (by omega) (by omega) k hk).trans (congrFun k4 k)))
                  refine z_weq (w' := [zH, zG _ _ _ _]) rfl ?_
                  refine z_seq (S' := []) rfl ?_
                  refine z_iload_n F dX6_grow_190 rfl ?_
                  refine z_iconst F (-1) dX6_grow_191 rfl ?_
                  refine z_icmp_eq F (tgt := 204) dX6_grow_192 (by decide) (fun c_192 => ?_) (fun c_192 => ?_)
                  · refine z_iload F dX6_grow_204 rfl ?_
                    refine z_istore_n F dX6_grow_206 (Nat.le_of_ble_eq_true rfl) ?_
                    refine z_leq (L' := [_, _, _, _, _, _, _, _, _]) rfl ?_
                    refine z_iload F dX6_grow_207 rfl ?_
                    refine z_istore F dX6_grow_209 (Nat.le_of_ble_eq_true rfl) ?_
                    refine z_leq (L' := [_, _, _, _, _, _, _, _, _]) rfl ?_
                    refine z_iload F dX6_grow_211 rfl ?_
                    refine z_istore F dX6_grow_213 (Nat.le_of_ble_eq_true rfl) ?_
                    refine z_leq (L' := [_, _, _, _, _, _, _, _, _]) rfl ?_
                    refine z_iincN F 1 dX6_grow_215 rfl rfl ?_
                    refine z_leq (L' := [_, _, _, _, _, _, _, _, _]) rfl ?_
                    refine z_goto F (tgt := 106) dX6_grow_218 (by decide) ?_
                    refine z_loc _ ?_ (fin (some (i, 0, cpr (n + 1) (gw1 n f i))) (by rw [ga1, gv_1 hvl c_192]))
                    exact ⟨rfl, rfl, rfl, rfl, rfl, rfl, rfl, rfl, trivial⟩
                  · refine z_iload F dX6_grow_195 rfl ?_
                    refine z_iload_n F dX6_grow_197 rfl ?_
                    refine z_icmp_lt F (tgt := 204) dX6_grow_198 (by decide) (fun c_198 => ?_) (fun c_198 => ?_)
                    · refine z_iload F dX6_grow_204 rfl ?_
                      refine z_istore_n F dX6_grow_206 (Nat.le_of_ble_eq_true rfl) ?_
                      refine z_leq (L' := [_, _, _, _, _, _, _, _, _]) rfl ?_
                      refine z_iload F dX6_grow_207 rfl ?_
                      refine z_istore F dX6_grow_209 (Nat.le_of_ble_eq_true rfl) ?_
                      refine z_leq (L' := [_, _, _, _, _, _, _, _, _]) rfl ?_
                      refine z_iload F dX6_grow_211 rfl ?_
                      refine z_istore F dX6_grow_213 (Nat.le_of_ble_eq_true rfl) ?_
                      refine z_leq (L' := [_, _, _, _, _, _, _, _, _]) rfl ?_
                      refine z_iincN F 1 dX6_grow_215 rfl rfl ?_
                      refine z_leq (L' := [_, _, _, _, _, _, _, _, _]) rfl ?_
                      refine z_goto F (tgt := 106) dX6_grow_218 (by decide) ?_
                      refine z_loc _ ?_ (fin (some (i, 0, cpr (n + 1) (gw1 n f i))) (by rw [ga1, gv_2 hvl (by omega) c_192 c_198]))
                      exact ⟨rfl, rfl, rfl, rfl, rfl, rfl, rfl, rfl, trivial⟩
                    · refine z_goto F (tgt := 215) dX6_grow_201 (by decide) ?_
                      refine z_iincN F 1 dX6_grow_215 rfl rfl ?_
                      refine z_leq (L' := [_, _, _, _, _, _, _, _, _]) rfl ?_
                      refine z_goto F (tgt := 106) dX6_grow_218 (by decide) ?_
                      refine z_loc _ ?_ (fin (ga1 n f i) (by rw [ga1, gv_3 hvl (by omega) c_192 c_198]))
                      exact ⟨rfl, rfl, rfl, rfl, rfl, rfl, rfl, rfl, trivial⟩
                · exact absurd c_173 (by omega)
              · exact absurd c_155 (by omega)
            · exact absurd c_129 (by omega)
      refine z_iload F dX6_grow_81 rfl ?_
      refine z_aload_n F dX6_grow_83 rfl ?_
      refine z_mi F rfl 20 rfl (Nat.le_of_ble_eq_true rfl) rfl q1500 dX6_grow_84 ?_
      refine z_ieq (g20) ?_
      refine z_icmp_geN F (by omega) (by omega) (tgt := 227) dX6_grow_87 (by decide) (fun c_87 => ?_) (fun c_87 => ?_)
      · have ei : i = L := by omega
        subst ei
        exact J F1 A1 g0 g4 g5 g20 hF hA hE hf1
      · refine z_iload_n F dX6_grow_90 rfl ?_
        refine z_iconst F (nI 1) dX6_grow_91 rfl ?_
        refine z_icmp_neN F (by omega) (by omega) (tgt := 100) dX6_grow_92 (by decide) (fun c_92 => ?_) (fun c_92 => ?_)
        · exact absurd c_92 (by omega)
        · refine z_iload F dX6_grow_95 rfl ?_
          refine z_goto F (tgt := 104) dX6_grow_97 (by decide) ?_
          refine z_istore F dX6_grow_104 (Nat.le_of_ble_eq_true rfl) ?_
          refine z_leq (L' := [_, _, _, _, _, _, _, _, _]) rfl ?_
          exact K1 (by omega)
  refine z_aload_n F dX6_grow_0 rfl ?_
  refine z_iload_n F dX6_grow_1 rfl ?_
  refine z_callV F (c_lays_ok _ _ _ _ j n (nI d) f hj (by omega) h24 hs) 1 rfl (lw_V q1732 q1734 qs42 q117 q1735) (by decide +kernel) ⟨Nat.le_of_ble_eq_true rfl, Nat.le_of_ble_eq_true rfl⟩ ⟨by omega, by omega⟩ [0, 1] 2 ⟨rfl, rfl, rfl, ⟨Or.inl rfl, Or.inr rfl, trivial⟩⟩ (fun h => nomatch h) (Nat.le_of_ble_eq_true rfl) ⟨⟨Or.inr trivial, Or.inl rfl, trivial⟩, rfl, rfl, rfl, Nat.le_of_ble_eq_true rfl⟩ rfl zC6 (zat_G0 rfl) rfl dX6_grow_2 (fun r_2 w_2 hp => ?_) (fun _ _ h => h.elim)
  obtain ⟨rfl, F1, A1, rfl, f0, f1, f2, f3⟩ := hp
  refine z_weq (w' := [zH, zG _ _ _ _]) rfl ?_
  refine z_seq (S' := zi _ :: _) rfl ?_
  refine z_if_eqB F (tgt := 31) dX6_grow_5 (by decide) (fun c_5 => ?_) (fun c_5 => ?_)
  · cases c_5
  · refine z_aload_n F dX6_grow_8 rfl ?_
    refine z_iload_n F dX6_grow_9 rfl ?_
    refine z_iconst F (nI 1) dX6_grow_10 rfl ?_
    refine z_icmp_eqN F (by omega) (by omega) (tgt := 19) dX6_grow_11 (by decide) (fun c_11 => ?_) (fun c_11 => ?_)
    · refine z_iconstB F true dX6_grow_19 rfl ?_
      refine z_goto F (tgt := 24) dX6_grow_20 (by decide) ?_
      refine z_iconst F (nI 2) dX6_grow_24 rfl ?_
      refine z_callV F (c_right _ _ _ _ true 2 f0 (by omega) (by omega)) 2 rfl (lw_V q1736 q1738 qs43 q117 q1739) (by decide +kernel) ⟨Nat.le_of_ble_eq_true rfl, Nat.le_of_ble_eq_true rfl⟩ ⟨by omega, by omega⟩ [0, 1] 2 ⟨rfl, rfl, rfl, ⟨Or.inl rfl, Or.inr rfl, trivial⟩⟩ (fun h => nomatch h) (Nat.le_of_ble_eq_true rfl) ⟨⟨Or.inr trivial, Or.inl rfl, trivial⟩, rfl, rfl, rfl, Nat.le_of_ble_eq_true rfl⟩ rfl zC6 (zat_G0 rfl) rfl dX6_grow_25 (fun r_25 w_25 hp => ?_) (fun _ _ h => h.elim)
      obtain ⟨rfl, rfl⟩ := hp
      refine z_weq (w' := [zH, zG _ _ _ _]) rfl ?_
      refine z_seq (S' := zi _ :: _) rfl ?_
      refine z_if_neB F (tgt := 33) dX6_grow_28 (by decide) (fun c_28 => ?_) (fun c_28 => ?_)
      · refine z_aload_n F dX6_grow_33 rfl ?_
        refine z_mi F rfl 4 rfl (Nat.le_of_ble_eq_true rfl) rfl q1484 dX6_grow_34 ?_
        refine z_ieq (f3.1) ?_
        refine z_bipush F (nI 24) dX6_grow_37 rfl ?_
        refine z_icmp_neN F (by omega) (by omega) (tgt := 44) dX6_grow_39 (by decide) (fun c_39 => ?_) (fun c_39 => ?_)
        · refine z_aload_n F dX6_grow_44 rfl ?_
          refine z_callV F (c_lists F1 _ _ _ n f h24 (by omega) f3.1 (fun k hk => f3.2.2 k (by omega))) 0 rfl (lw_V q1868 q1870 qs62 q117 q1871) (by decide +kernel) ⟨Nat.le_of_ble_eq_true rfl, Nat.le_of_ble_eq_true rfl⟩ ⟨by omega, by omega⟩ [0, 1] 2 ⟨rfl, rfl, rfl, ⟨Or.inl rfl, Or.inr rfl, trivial⟩⟩ (fun h => nomatch h) (Nat.le_of_ble_eq_true rfl) ⟨⟨Or.inr trivial, Or.inl rfl, trivial⟩, rfl, rfl, rfl, Nat.le_of_ble_eq_true rfl⟩ rfl zC6 (zat_G0 rfl) rfl dX6_grow_45 (fun r_45 w_45 hp => ?_) (fun _ _ h => h.elim)
          obtain ⟨rfl, A2, rfl, a1, a2⟩ := hp
          rw [hLe]
          refine z_weq (w' := [zH, zG _ _ _ _]) rfl ?_
          refine z_seq (S' := []) rfl ?_
          refine z_aload_n F dX6_grow_48 rfl ?_
          refine z_dup F dX6_grow_49 rfl ?_
          refine z_mi F rfl 4 rfl (Nat.le_of_ble_eq_true rfl) rfl q1484 dX6_grow_50 ?_
          refine z_ieq ((show _ = nI n from f3.1)) ?_
          refine z_iconst F (nI 1) dX6_grow_53 rfl ?_
          refine z_iaddN F dX6_grow_54 ?_
          refine z_pmi F rfl 4 rfl (Nat.le_of_ble_eq_true rfl) rfl q1484 rfl rfl rfl dX6_grow_55 ?_
          refine z_weq (w' := [_, _]) rfl ?_
          refine z_aload_n F dX6_grow_58 rfl ?_
          refine z_ma F rfl 6 rfl (Nat.le_of_ble_eq_true rfl) rfl q1486 dX6_grow_59 ?_
          refine z_aload_n F dX6_grow_62 rfl ?_
          refine z_mi F rfl 4 rfl (Nat.le_of_ble_eq_true rfl) rfl q1484 dX6_grow_63 ?_
          refine z_ieq ((show _ = nI (n + 1) from rfl)) ?_
          refine z_iconst F (nI 1) dX6_grow_66 rfl ?_
          refine z_isubN F (by omega) dX6_grow_67 ?_
          refine z_iconst F (nI 0) dX6_grow_68 rfl ?_
          refine z_iastGN F rfl rfl (Nat.le_of_ble_eq_true rfl) (by omega) dX6_grow_69 ?_
          refine z_weq (w' := [_, _]) rfl ?_
          refine z_iconst F (-1) dX6_grow_70 rfl ?_
          refine z_istore_n F dX6_grow_71 (Nat.le_of_ble_eq_true rfl) ?_
          refine z_leq (L' := [_, _, _, _, _, _, _, _, _]) rfl ?_
          refine z_iconst F (-1) dX6_grow_72 rfl ?_
          refine z_istore F dX6_grow_73 (Nat.le_of_ble_eq_true rfl) ?_
          refine z_leq (L' := [_, _, _, _, _, _, _, _, _]) rfl ?_
          refine z_iconst F (-1) dX6_grow_75 rfl ?_
          refine z_istore F dX6_grow_76 (Nat.le_of_ble_eq_true rfl) ?_
          refine z_leq (L' := [_, _, _, _, _, _, _, _, _]) rfl ?_
          refine z_iconst F (nI 0) dX6_grow_78 rfl ?_
          refine z_istore F dX6_grow_79 (Nat.le_of_ble_eq_true rfl) ?_
          refine z_leq (L' := [_, _, _, _, _, _, _, _, _]) rfl ?_
          refine loop _ 0 _ _ (Nat.lt_succ_self _) (by omega) f0 rfl f3.2.1 rfl (frm_upd (frm_upd (f1.to (by decide)) (by decide)) (by decide)) (frm_zup (f2.tr a1 (by decide) (by decide)) (by decide)) (a2.to (zup2_ne (by decide)) (zup2_ne (by decide))) (fun k hk => ?_)
          rw [zup2_at, Nat.add_sub_cancel]
          by_cases q : k = n
          · rw [if_pos q, q, hfz]
          · rw [if_neg q]; exact (congrFun (a1.at 6 rfl) k).trans (f3.2.2 k hk)
        · exact absurd c_39 (by omega)
      · cases c_28
    · exact absurd c_11 (by omega)
set_option maxHeartbeats 8000000 in
theorem c_mgrow2_ok (F0 : Nat → Int32) (G : Nat → Int64) (A : Nat → Nat → Int32) (B : Nat → Nat → Int64) (j n d : Nat) (f : Nat → Int32) (hj : j < 8) (h : nok n d f) (hn : n < 24) (hs : Slt A j n (nI d) f) :
    zCtr yX6_grow cX6_grow 9 (some .int) 3 0 0 [zr 1 0, zi (nI j), zi (nI 2)] [zH, zG F0 G A B] (fun r w => r = some (zi (gvI (ga2 n f (prs n f).length))) ∧ ∃ F' A', w = [zH, zG F' G A' B] ∧ F' 0 = nI 0 ∧ frm [0, 4, 5, 20, 24, 25] F0 F' ∧ frm [1, 2, 3, 6, 21, 22, 23] A A' ∧ (∀ q, ga2 n f (prs n f).length = some q → Slt A' j (n + 1) (nI (max d 4)) (gw2 n f q.1 q.2.1)) ∧ (ga2 n f (prs n f).length = none → SltEq A A' j) ∧ ∀ i, i < 8 → i ≠ j → SltEq A A' i) zNx := by
  refine z_start (by decide) [some (zr 1 0), some (zi (nI j)), some (zi (nI 2)), none, none, none, none, none, none] rfl (fun _ => Nat.le_of_ble_eq_true rfl) (fun _ => rfl) (fun X F E hno hin => ?_)
  have h1 := h.n1
  have h24 := h.n24
  have hd8 := h.d8
  have h96 := prs_96 h
  have hfz : f n = nI 0 := h.zero (Nat.le_refl _) hn
  have g1ok := fun i (hi : i < (prs n f).length) => gw1_ok (d' := max d 4) h hn (by omega) (by omega) (by omega) hi
  have g2ok := fun i k (hi : i < (prs n f).length) (hk : k < (prs n f).length) (hap : apr (prs n f) i k = true) => gw2_ok (d' := max d 4) h hn (by omega) (by omega) (by omega) hi hk hap
  generalize hLe : (prs n f).length = L at *
  have hat : ∀ i, i < L → la (prs n f) i < lb (prs n f) i ∧ lb (prs n f) i < n := fun i hi => by
    have := prs_at (show i < (prs n f).length by omega)
    exact ⟨this.1, this.2.1⟩
  have hen : ∀ (A1 : Nat → Nat → Int32), LnE A1 (prs n f) → ∀ i, i < L → A1 21 i = nI (la (prs n f) i) ∧ A1 22 i = nI (lb (prs n f) i) := fun A1 hE i hi => hE i (by omega)
  have hvb : ∀ s, gok n f true s → ∀ q, s = some q → q.2.2 ≤ 1000000 := fun s hs q hq => (hs q hq).2.2.1
  have J : ∀ (F1 : Nat → Int32) (A1 : Nat → Nat → Int32), F1 0 = nI 0 → F1 4 = nI (n + 1) → F1 5 = nI d → F1 20 = nI L → frm [0, 4, 5, 20, 24, 25] F0 F1 → frm [6, 21, 22, 23] A A1 → LnE A1 (prs n f) → (∀ k, k < 24 → A1 6 k = f k) → Z X [some (zr 1 0), some (zi (nI j)), some (zi (nI 2)), some (zi (gvI (ga2 n f L))), some (zi (bI1 (ga2 n f L))), some (zi (bI2 (ga2 n f L))), some (zi (nI L)), none, none] [] [zH, zG F1 G A1 B] 0 0 227 := by
    intro F1 A1 g0 g4 g5 g20 hF hA hE hf1
    have hok := ga2_ok (f := f) hn L (by omega)
    rcases hq : ga2 n f L with _ | q
    ·
      refine z_iload_n F dX6_grow_227 rfl ?_
      refine z_iconst F (-1) dX6_grow_228 rfl ?_
      refine z_icmp_ne F (tgt := 234) dX6_grow_229 (by decide) (fun c_229 => ?_) (fun c_229 => ?_)
      · exact absurd rfl c_229
      · refine z_iconst F (-1) dX6_grow_232 rfl ?_
        exact z_iret F E rfl dX6_grow_233 (by omega) (by omega) (⟨by rw [hq]; rfl, F1, A1, rfl, g0, hF, hA.to (by decide), fun q z => (by rw [hq] at z; cases z), fun _ => SltEq.of6 hA (by decide), fun i hi hne => SltEq.of6 hA (by decide)⟩)
    · obtain ⟨q1, q2, q3, q4⟩ := hok q hq
      have a1 := hat q.1 (by omega)
      have a2 := hat q.2.1 (by omega)
      have e1 := hen A1 hE q.1 (by omega)
      have e2 := hen A1 hE q.2.1 (by omega)
      have K : ∀ x : Nat, x = max d 4 → Z X [some (zr 1 0), some (zi (nI j)), some (zi (nI 2)), some (zi (nI q.2.2)), some (zi (nI q.1)), some (zi (nI q.2.1)), some (zi (nI L)), none, none] [zi (nI x), zr 1 0] [zH, zG F1 G (fA A1 6 (gr1 (gr1 (A1 6) n (la (prs n f) q.1) (lb (prs n f) q.1)) n (la (prs n f) q.2.1) (lb (prs n f) q.2.1))) B] 0 0 274 := by
        intro x hx
        subst hx
        refine z_pmi F rfl 5 rfl (Nat.le_of_ble_eq_true rfl) rfl q1485 rfl rfl rfl dX6_grow_274 ?_
        refine z_weq (w' := [_, _]) rfl ?_
        refine z_aload_n F dX6_grow_277 rfl ?_
        refine z_iload_n F dX6_grow_278 rfl ?_
        refine z_callV F (c_keeps (upd F1 5 (nI (max d 4))) _ _ _ j (n + 1) (nI (max d 4)) (gw2 n f q.1 q.2.1) hj ⟨g4, rfl, fun k hk => by rw [fA_at]; exact gr1_cong (fun k hk => gr1_cong hf1 hn (show la (prs n f) q.1 < 24 by omega) (show lb (prs n f) q.1 < 24 by omega) k hk) hn (by omega) (by omega) k hk⟩) 1 rfl (lw_V q1724 q1726 qs41 q117 q1727) (by decide +kernel) ⟨Nat.le_of_ble_eq_true rfl, Nat.le_of_ble_eq_true rfl⟩ ⟨by omega, by omega⟩ [0, 1] 2 ⟨rfl, rfl, rfl, ⟨Or.inl rfl, Or.inr rfl, trivial⟩⟩ (fun h => nomatch h) (Nat.le_of_ble_eq_true rfl) ⟨⟨Or.inr trivial, Or.inl rfl, trivial⟩, rfl, rfl, rfl, Nat.le_of_ble_eq_true rfl⟩ rfl zC6 (zat_G0 rfl) rfl dX6_grow_279 (fun r_279 w_279 hp => ?_) (fun _ _ h => h.elim)
        obtain ⟨rfl, A3, rfl, b1, b2, b3⟩ := hp
        refine z_weq (w' := [zH, zG _ _ _ _]) rfl ?_
        refine z_seq (S' := []) rfl ?_
        refine z_iload_n F dX6_grow_282 rfl ?_
        exact z_iret F E rfl dX6_grow_283 (by omega) (by omega) (⟨by rw [hq]; rfl, _, A3, rfl, g0, frm_upd hF (by decide), (hA.tr (frm_fA (l := [6]) frm.rf (by decide)) (l2 := [6, 21, 22, 23]) (by decide) (by decide)).tr b1 (by decide) (by decide), fun q' z => (by rw [hq] at z; cases z; exact b2), fun z => (by rw [hq] at z; cases z), fun i hi hne => ((SltEq.of6 hA (by decide)).tr (SltEq.of6 (frm_fA (l := [6]) frm.rf (by decide)) (by decide))).tr (b3 i hi hne)⟩)
      refine z_leq (L' := [some (zr 1 0), some (zi (nI j)), some (zi (nI 2)), some (zi (nI q.2.2)), some (zi (nI q.1)), some (zi (nI q.2.1)), some (zi (nI L)), none, none]) rfl ?_
      refine z_iload_n F dX6_grow_227 rfl ?_
      refine z_iconst F (-1) dX6_grow_228 rfl ?_
      refine z_icmp_ne F (tgt := 234) dX6_grow_229 (by decide) (fun c_229 => ?_) (fun c_229 => ?_)
      · refine z_aload_n F dX6_grow_234 rfl ?_
        refine z_iload F dX6_grow_235 rfl ?_
        refine z_iconst F (nI 0) dX6_grow_237 rfl ?_
        refine z_callV F (c_mpull F1 _ _ _ n q.1 (la (prs n f) q.1) (lb (prs n f) q.1) hn (by omega) g4 e1.1 e1.2 (by omega) (by omega)) 2 rfl (lw_V q2155 q2157 qs107 q117 q2158) (by decide +kernel) ⟨Nat.le_of_ble_eq_true rfl, Nat.le_of_ble_eq_true rfl⟩ ⟨by omega, by omega⟩ [0, 1] 2 ⟨rfl, rfl, rfl, ⟨Or.inl rfl, Or.inr rfl, trivial⟩⟩ (fun h => nomatch h) (Nat.le_of_ble_eq_true rfl) ⟨⟨Or.inr trivial, Or.inl rfl, trivial⟩, rfl, rfl, rfl, Nat.le_of_ble_eq_true rfl⟩ rfl zC6 (zat_G0 rfl) rfl dX6_grow_238 (fun r_238 w_238 hp => ?_) (fun _ _ h => h.elim)
        obtain ⟨rfl, rfl⟩ := hp
        refine z_weq (w' := [zH, zG _ _ _ _]) rfl ?_
        refine z_seq (S' := []) rfl ?_
        refine z_iload_n F dX6_grow_241 rfl ?_
        refine z_iconst F (nI 2) dX6_grow_242 rfl ?_
        refine z_icmp_neN F (by omega) (by omega) (tgt := 253) dX6_grow_243 (by decide) (fun c_243 => ?_) (fun c_243 => ?_)
        · exact absurd c_243 (by omega)
        · refine z_aload_n F dX6_grow_246 rfl ?_
          refine z_iload F dX6_grow_247 rfl ?_
          refine z_iconst F (nI 0) dX6_grow_249 rfl ?_
          refine z_callV F (c_mpull F1 _ _ _ n q.2.1 (la (prs n f) q.2.1) (lb (prs n f) q.2.1) hn (by omega) g4 ((congrFun (fA_ne (by decide)) _).trans e2.1) ((congrFun (fA_ne (by decide)) _).trans e2.2) (by omega) (by omega)) 2 rfl (lw_V q2155 q2157 qs107 q117 q2158) (by decide +kernel) ⟨Nat.le_of_ble_eq_true rfl, Nat.le_of_ble_eq_true rfl⟩ ⟨by omega, by omega⟩ [0, 1] 2 ⟨rfl, rfl, rfl, ⟨Or.inl rfl, Or.inr rfl, trivial⟩⟩ (fun h => nomatch h) (Nat.le_of_ble_eq_true rfl) ⟨⟨Or.inr trivial, Or.inl rfl, trivial⟩, rfl, rfl, rfl, Nat.le_of_ble_eq_true rfl⟩ rfl zC6 (zat_G0 rfl) rfl dX6_grow_250 (fun r_250 w_250 hp => ?_) (fun _ _ h => h.elim)
          obtain ⟨rfl, rfl⟩ := hp
          rw [fA_at, fA_fA]
          refine z_weq (w' := [zH, zG _ _ _ _]) rfl ?_
          refine z_seq (S' := []) rfl ?_
          refine z_aload_n F dX6_grow_253 rfl ?_
          refine z_aload_n F dX6_grow_254 rfl ?_
          refine z_mi F rfl 5 rfl (Nat.le_of_ble_eq_true rfl) rfl q1485 dX6_grow_255 ?_
          refine z_ieq (g5) ?_
          refine z_iconst F (nI 2) dX6_grow_258 rfl ?_
          refine z_iload_n F dX6_grow_259 rfl ?_
          refine z_imulN F dX6_grow_260 ?_
          refine z_icmp_geN F (by omega) (by omega) (tgt := 270) dX6_grow_261 (by decide) (fun c_261 => ?_) (fun c_261 => ?_)
          · refine z_aload_n F dX6_grow_270 rfl ?_
            refine z_mi F rfl 5 rfl (Nat.le_of_ble_eq_true rfl) rfl q1485 dX6_grow_271 ?_
            refine z_ieq (g5) ?_
            exact K _ (by first | (rw [Nat.max_eq_right (by omega)]; done) | (rw [Nat.max_eq_left (by omega)]; done))
          · refine z_iconst F (nI 2) dX6_grow_264 rfl ?_
            refine z_iload_n F dX6_grow_265 rfl ?_
            refine z_imulN F dX6_grow_266 ?_
            refine z_goto F (tgt := 274) dX6_grow_267 (by decide) ?_
            exact K _ (by first | (rw [Nat.max_eq_right (by omega)]; done) | (rw [Nat.max_eq_left (by omega)]; done))
      · exact absurd c_229 (nI_ne (by omega))
  have inner : ∀ (i : Nat) (s : MS), i < L → gok n f true s → (∀ F1 A1, F1 0 = nI 0 → F1 4 = nI (n + 1) → F1 5 = nI d → F1 20 = nI L → frm [0, 4, 5, 20, 24, 25] F0 F1 → frm [6, 21, 22, 23] A A1 → LnE A1 (prs n f) → (∀ k, k < 24 → A1 6 k = f k) → Z X [some (zr 1 0), some (zi (nI j)), some (zi (nI 2)), some (zi (gvI (gb2 n f i s L))), some (zi (bI1 (gb2 n f i s L))), some (zi (bI2 (gb2 n f i s L))), some (zi (nI i)), none, none] [] [zH, zG F1 G A1 B] 0 0 221) →
      ∀ (m k : Nat) (F1 : Nat → Int32) (A1 : Nat → Nat → Int32), L + 1 - k < m → i < k → k ≤ L → F1 0 = nI 0 → F1 4 = nI (n + 1) → F1 5 = nI d → F1 20 = nI L → frm [0, 4, 5, 20, 24, 25] F0 F1 → frm [6, 21, 22, 23] A A1 → LnE A1 (prs n f) → (∀ k, k < 24 → A1 6 k = f k) → Z X [some (zr 1 0), some (zi (nI j)), some (zi (nI 2)), some (zi (gvI (gb2 n f i s k))), some (zi (bI1 (gb2 n f i s k))), some (zi (bI2 (gb2 n f i s k))), some (zi (nI i)), some (zi (nI k)), none] [] [zH, zG F1 G A1 B] 0 0 106 := by
    intro i s hi hs kk m
    induction m with
    | zero => intro k F1 A1 hm; omega
    | succ m ih =>
      intro k F1 A1 hm hik hk g0 g4 g5 g20 hF hA hE hf1
      have hok := gb2_ok (i := i) hn (by omega) hs k (by omega)
      have hvl := hvb _ hok
      have a1 := hat i hi
      by_cases hkl : k = L
      · subst hkl
        refine z_iload F dX6_grow_106 rfl ?_
        refine z_iload_n F dX6_grow_108 rfl ?_
        refine z_iconst F (nI 1) dX6_grow_109 rfl ?_
        refine z_icmp_neN F (by omega) (by omega) (tgt := 120) dX6_grow_110 (by decide) (fun c_110 => ?_) (fun c_110 => ?_)
        · refine z_aload_n F dX6_grow_120 rfl ?_
          refine z_mi F rfl 20 rfl (Nat.le_of_ble_eq_true rfl) rfl q1500 dX6_grow_121 ?_
          refine z_ieq (g20) ?_
          refine z_icmp_geN F (by omega) (by omega) (tgt := 221) dX6_grow_124 (by decide) (fun c_124 => ?_) (fun c_124 => ?_)
          · refine z_loc _ ?_ (kk F1 A1 g0 g4 g5 g20 hF hA hE hf1)
            exact ⟨rfl, rfl, rfl, rfl, rfl, rfl, rfl, trivial⟩
          · exact absurd c_124 (by omega)
        · exact absurd c_110 (by omega)
      · have a2 := hat k (by omega)
        obtain ⟨e1, e2⟩ := hen A1 hE i hi
        obtain ⟨e3, e4⟩ := hen A1 hE k (by omega)
        have K2 : ∀ (s' : MS) (F1 : Nat → Int32) (A1 : Nat → Nat → Int32), s' = gb2 n f i s (k + 1) → F1 0 = nI 0 → F1 4 = nI (n + 1) → F1 5 = nI d → F1 20 = nI L → frm [0, 4, 5, 20, 24, 25] F0 F1 → frm [6, 21, 22, 23] A A1 → LnE A1 (prs n f) → (∀ k, k < 24 → A1 6 k = f k) → Z X [some (zr 1 0), some (zi (nI j)), some (zi (nI 2)), some (zi (gvI (s'))), some (zi (bI1 (s'))), some (zi (bI2 (s'))), some (zi (nI i)), some (zi (nI (k + 1))), none] [] [zH, zG F1 G A1 B] 0 0 106 := by
          intro s' F1 A1 hs' g0 g4 g5 g20 hF hA hE hf1
          subst hs'
          exact ih (k + 1) F1 A1 (by omega) (by omega) (by omega) g0 g4 g5 g20 hF hA hE hf1
        rcases hap : apr (prs n f) i k with _ | _
        ·
          refine z_iload F dX6_grow_106 rfl ?_
          refine z_iload_n F dX6_grow_108 rfl ?_
          refine z_iconst F (nI 1) dX6_grow_109 rfl ?_
          refine z_icmp_neN F (by omega) (by omega) (tgt := 120) dX6_grow_110 (by decide) (fun c_110 => ?_) (fun c_110 => ?_)
          · refine z_aload_n F dX6_grow_120 rfl ?_
            refine z_mi F rfl 20 rfl (Nat.le_of_ble_eq_true rfl) rfl q1500 dX6_grow_121 ?_
            refine z_ieq (g20) ?_
            refine z_icmp_geN F (by omega) (by omega) (tgt := 221) dX6_grow_124 (by decide) (fun c_124 => ?_) (fun c_124 => ?_)
            · exact absurd c_124 (by omega)
            · refine z_iload_n F dX6_grow_127 rfl ?_
              refine z_iconst F (nI 2) dX6_grow_128 rfl ?_
              refine z_icmp_neN F (by omega) (by omega) (tgt := 146) dX6_grow_129 (by decide) (fun c_129 => ?_) (fun c_129 => ?_)
              · exact absurd c_129 (by omega)
              · refine z_aload_n F dX6_grow_132 rfl ?_
                refine z_iload F dX6_grow_133 rfl ?_
                refine z_iload F dX6_grow_135 rfl ?_
                refine z_callV F (c_mapr F1 _ _ _ (prs n f) i k (by omega) (by omega) ⟨e1, e2⟩ ⟨e3, e4⟩ (by omega) (by omega) (by omega) (by omega)) 2 rfl (lw_V q2151 q2153 qs106 q117 q2154) (by decide +kernel) ⟨Nat.le_of_ble_eq_true rfl, Nat.le_of_ble_eq_true rfl⟩ ⟨by omega, by omega⟩ [0, 1] 2 ⟨rfl, rfl, rfl, ⟨Or.inl rfl, Or.inr rfl, trivial⟩⟩ (fun h => nomatch h) (Nat.le_of_ble_eq_true rfl) ⟨⟨Or.inr trivial, Or.inl rfl, trivial⟩, rfl, rfl, rfl, Nat.le_of_ble_eq_true rfl⟩ rfl zC6 (zat_G0 rfl) rfl dX6_grow_137 (fun r_137 w_137 hp => ?_) (fun _ _ h => h.elim)
                obtain ⟨rfl, rfl⟩ := hp
                rw [hap]
                refine z_weq (w' := [zH, zG _ _ _ _]) rfl ?_
                refine z_seq (S' := zi _ :: _) rfl ?_
                refine z_if_neB F (tgt := 146) dX6_grow_140 (by decide) (fun c_140 => ?_) (fun c_140 => ?_)
                · cases c_140
                · refine z_goto F (tgt := 215) dX6_grow_143 (by decide) ?_
                  refine z_iincN F 1 dX6_grow_215 rfl rfl ?_
                  refine z_leq (L' := [_, _, _, _, _, _, _, _, _]) rfl ?_
                  refine z_goto F (tgt := 106) dX6_grow_218 (by decide) ?_
                  refine z_loc _ ?_ (K2 (gb2 n f i s k) F1 A1 (gb2_n hap).symm g0 g4 g5 g20 hF hA hE hf1)
                  exact ⟨rfl, rfl, rfl, rfl, rfl, rfl, rfl, rfl, trivial⟩
          · exact absurd c_110 (by omega)
        · obtain ⟨k1, k2, k3, k4⟩ := g1ok i hi
          obtain ⟨l1, l2⟩ := g2ok i k hi (by omega) hap
          have hcb := cpr_bd (n := n + 1) (gw2 n f i k) (by omega)
          have hpe := mpr_eq (n := n + 1) (f := gw2 n f i k) (by omega) (fun a b ha hb => l1.sym ha hb)
          have hcg := gr1_cong hf1 hn (show la (prs n f) i < 24 by omega) (show lb (prs n f) i < 24 by omega)
          have hcg2 := gr1_cong hcg hn (show la (prs n f) k < 24 by omega) (show lb (prs n f) k < 24 by omega)
          refine z_iload F dX6_grow_106 rfl ?_
          refine z_iload_n F dX6_grow_108 rfl ?_
          refine z_iconst F (nI 1) dX6_grow_109 rfl ?_
          refine z_icmp_neN F (by omega) (by omega) (tgt := 120) dX6_grow_110 (by decide) (fun c_110 => ?_) (fun c_110 => ?_)
          · refine z_aload_n F dX6_grow_120 rfl ?_
            refine z_mi F rfl 20 rfl (Nat.le_of_ble_eq_true rfl) rfl q1500 dX6_grow_121 ?_
            refine z_ieq (g20) ?_
            refine z_icmp_geN F (by omega) (by omega) (tgt := 221) dX6_grow_124 (by decide) (fun c_124 => ?_) (fun c_124 => ?_)
            · exact absurd c_124 (by omega)
            · refine z_iload_n F dX6_grow_127 rfl ?_
              refine z_iconst F (nI 2) dX6_grow_128 rfl ?_
              refine z_icmp_neN F (by omega) (by omega) (tgt := 146) dX6_grow_129 (by decide) (fun c_129 => ?_) (fun c_129 => ?_)
              · exact absurd c_129 (by omega)
              · refine z_aload_n F dX6_grow_132 rfl ?_
                refine z_iload F dX6_grow_133 rfl ?_
                refine z_iload F dX6_grow_135 rfl ?_
                refine z_callV F (c_mapr F1 _ _ _ (prs n f) i k (by omega) (by omega) ⟨e1, e2⟩ ⟨e3, e4⟩ (by omega) (by omega) (by omega) (by omega)) 2 rfl (lw_V q2151 q2153 qs106 q117 q2154) (by decide +kernel) ⟨Nat.le_of_ble_eq_true rfl, Nat.le_of_ble_eq_true rfl⟩ ⟨by omega, by omega⟩ [0, 1] 2 ⟨rfl, rfl, rfl, ⟨Or.inl rfl, Or.inr rfl, trivial⟩⟩ (fun h => nomatch h) (Nat.le_of_ble_eq_true rfl) ⟨⟨Or.inr trivial, Or.inl rfl, trivial⟩, rfl, rfl, rfl, Nat.le_of_ble_eq_true rfl⟩ rfl zC6 (zat_G0 rfl) rfl dX6_grow_137 (fun r_137 w_137 hp => ?_) (fun _ _ h => h.elim)
                obtain ⟨rfl, rfl⟩ := hp
                rw [hap]
                refine z_weq (w' := [zH, zG _ _ _ _]) rfl ?_
                refine z_seq (S' := zi _ :: _) rfl ?_
                refine z_if_neB F (tgt := 146) dX6_grow_140 (by decide) (fun c_140 => ?_) (fun c_140 => ?_)
                · refine z_aload_n F dX6_grow_146 rfl ?_
                  refine z_iload F dX6_grow_147 rfl ?_
                  refine z_iconstB F false dX6_grow_149 rfl ?_
                  refine z_callV F (c_mpull F1 _ _ _ n i (la (prs n f) i) (lb (prs n f) i) hn (by omega) g4 e1 e2 (by omega) (by omega)) 2 rfl (lw_V q2155 q2157 qs107 q117 q2158) (by decide +kernel) ⟨Nat.le_of_ble_eq_true rfl, Nat.le_of_ble_eq_true rfl⟩ ⟨by omega, by omega⟩ [0, 1] 2 ⟨rfl, rfl, rfl, ⟨Or.inl rfl, Or.inr rfl, trivial⟩⟩ (fun h => nomatch h) (Nat.le_of_ble_eq_true rfl) ⟨⟨Or.inr trivial, Or.inl rfl, trivial⟩, rfl, rfl, rfl, Nat.le_of_ble_eq_true rfl⟩ rfl zC6 (zat_G0 rfl) rfl dX6_grow_150 (fun r_150 w_150 hp => ?_) (fun _ _ h => h.elim)
                  obtain ⟨rfl, rfl⟩ := hp
                  refine z_weq (w' := [zH, zG _ _ _ _]) rfl ?_
                  refine z_seq (S' := []) rfl ?_
                  refine z_iload_n F dX6_grow_153 rfl ?_
                  refine z_iconst F (nI 2) dX6_grow_154 rfl ?_
                  refine z_icmp_neN F (by omega) (by omega) (tgt := 165) dX6_grow_155 (by decide) (fun c_155 => ?_) (fun c_155 => ?_)
                  · exact absurd c_155 (by omega)
                  · refine z_aload_n F dX6_grow_158 rfl ?_
                    refine z_iload F dX6_grow_159 rfl ?_
                    refine z_iconstB F false dX6_grow_161 rfl ?_
                    refine z_callV F (c_mpull F1 _ _ _ n k (la (prs n f) k) (lb (prs n f) k) hn (by omega) g4 ((congrFun (fA_ne (by decide)) _).trans e3) ((congrFun (fA_ne (by decide)) _).trans e4) (by omega) (by omega)) 2 rfl (lw_V q2155 q2157 qs107 q117 q2158) (by decide +kernel) ⟨Nat.le_of_ble_eq_true rfl, Nat.le_of_ble_eq_true rfl⟩ ⟨by omega, by omega⟩ [0, 1] 2 ⟨rfl, rfl, rfl, ⟨Or.inl rfl, Or.inr rfl, trivial⟩⟩ (fun h => nomatch h) (Nat.le_of_ble_eq_true rfl) ⟨⟨Or.inr trivial, Or.inl rfl, trivial⟩, rfl, rfl, rfl, Nat.le_of_ble_eq_true rfl⟩ rfl zC6 (zat_G0 rfl) rfl dX6_grow_162 (fun r_162 w_162 hp => ?_) (fun _ _ h => h.elim)
                    obtain ⟨rfl, rfl⟩ := hp
                    rw [fA_at, fA_fA]
                    refine z_weq (w' := [zH, zG _ _ _ _]) rfl ?_
                    refine z_seq (S' := []) rfl ?_
                    refine z_aload_n F dX6_grow_165 rfl ?_
                    refine z_callV F (c_mprice F1 _ _ _ (n + 1) (gw2 n f i k) (by omega) g4 (fun x hx => by rw [fA_at]; exact hcg2 x (by omega))) 0 rfl (lw_V q1916 q1918 qs71 q117 q1919) (by decide +kernel) ⟨Nat.le_of_ble_eq_true rfl, Nat.le_of_ble_eq_true rfl⟩ ⟨by omega, by omega⟩ [0, 1] 2 ⟨rfl, rfl, rfl, ⟨Or.inl rfl, Or.inr rfl, trivial⟩⟩ (fun h => nomatch h) (Nat.le_of_ble_eq_true rfl) ⟨⟨Or.inr trivial, Or.inl rfl, trivial⟩, rfl, rfl, rfl, Nat.le_of_ble_eq_true rfl⟩ rfl zC6 (zat_G0 rfl) rfl dX6_grow_166 (fun r_166 w_166 hp => ?_) (fun _ _ h => h.elim)
                    obtain ⟨rfl, F2, A2, rfl, b1, b2⟩ := hp
                    rw [hpe]
                    refine z_weq (w' := [zH, zG _ _ _ _]) rfl ?_
                    refine z_seq (S' := zi _ :: _) rfl ?_
                    refine z_istore F dX6_grow_169 (Nat.le_of_ble_eq_true rfl) ?_
                    refine z_leq (L' := [_, _, _, _, _, _, _, _, _]) rfl ?_
                    refine z_iload_n F dX6_grow_171 rfl ?_
                    refine z_iconst F (nI 2) dX6_grow_172 rfl ?_
                    refine z_icmp_neN F (by omega) (by omega) (tgt := 183) dX6_grow_173 (by decide) (fun c_173 => ?_) (fun c_173 => ?_)
                    · exact absurd c_173 (by omega)
                    · refine z_aload_n F dX6_grow_176 rfl ?_
                      refine z_iload F dX6_grow_177 rfl ?_
                      refine z_iconstB F true dX6_grow_179 rfl ?_
                      refine z_callV F (c_mpullB F2 _ _ _ n k (la (prs n f) k) (lb (prs n f) k) hn (by omega) ((b1.at 4 rfl).trans g4) ((congrFun ((b2.at 21 rfl).trans (fA_ne (by decide))) _).trans e3) ((congrFun ((b2.at 22 rfl).trans (fA_ne (by decide))) _).trans e4) (by omega) (by omega)) 2 rfl (lw_V q2155 q2157 qs107 q117 q2158) (by decide +kernel) ⟨Nat.le_of_ble_eq_true rfl, Nat.le_of_ble_eq_true rfl⟩ ⟨by omega, by omega⟩ [0, 1] 2 ⟨rfl, rfl, rfl, ⟨Or.inl rfl, Or.inr rfl, trivial⟩⟩ (fun h => nomatch h) (Nat.le_of_ble_eq_true rfl) ⟨⟨Or.inr trivial, Or.inl rfl, trivial⟩, rfl, rfl, rfl, Nat.le_of_ble_eq_true rfl⟩ rfl zC6 (zat_G0 rfl) rfl dX6_grow_180 (fun r_180 w_180 hp => ?_) (fun _ _ h => h.elim)
                      obtain ⟨rfl, rfl⟩ := hp
                      refine z_weq (w' := [zH, zG _ _ _ _]) rfl ?_
                      refine z_seq (S' := []) rfl ?_
                      refine z_aload_n F dX6_grow_183 rfl ?_
                      refine z_iload F dX6_grow_184 rfl ?_
                      refine z_iconstB F true dX6_grow_186 rfl ?_
                      refine z_callV F (c_mpullB F2 _ _ _ n i (la (prs n f) i) (lb (prs n f) i) hn (by omega) ((b1.at 4 rfl).trans g4) ((congrFun ((fA_ne (by decide)).trans ((b2.at 21 rfl).trans (fA_ne (by decide)))) _).trans e1) ((congrFun ((fA_ne (by decide)).trans ((b2.at 22 rfl).trans (fA_ne (by decide)))) _).trans e2) (by omega) (by omega)) 2 rfl (lw_V q2155 q2157 qs107 q117 q2158) (by decide +kernel) ⟨Nat.le_of_ble_eq_true rfl, Nat.le_of_ble_eq_true rfl⟩ ⟨by omega, by omega⟩ [0, 1] 2 ⟨rfl, rfl, rfl, ⟨Or.inl rfl, Or.inr rfl, trivial⟩⟩ (fun h => nomatch h) (Nat.le_of_ble_eq_true rfl) ⟨⟨Or.inr trivial, Or.inl rfl, trivial⟩, rfl, rfl, rfl, Nat.le_of_ble_eq_true rfl⟩ rfl zC6 (zat_G0 rfl) rfl dX6_grow_187 (fun r_187 w_187 hp => ?_) (fun _ _ h => h.elim)
                      obtain ⟨rfl, rfl⟩ := hp
                      rw [fA_at, fA_fA]
                      have fin := (fun (s' : MS) (hs' : s' = gb2 n f i s (k + 1)) => K2 s' F2 (fA A2 6 (bk1 (bk1 (A2 6) n (la (prs n f) k) (lb (prs n f) k)) n (la (prs n f) i) (lb (prs n f) i))) hs' ((b1.at 0 rfl).trans g0) ((b1.at 4 rfl).trans g4) ((b1.at 5 rfl).trans g5) ((b1.at 20 rfl).trans g20) (hF.tr b1 (by decide) (by decide)) (((hA.tr (frm_fA (l := [6]) frm.rf (by decide)) (l2 := [6, 21, 22, 23]) (by decide) (by decide)).tr b2 (l2 := [6, 21, 22, 23]) (by decide) (by decide)).tr (frm_fA (l := [6]) frm.rf (by decide)) (by decide) (by decide)) (hE.to ((fA_ne (by decide)).trans ((b2.at 21 rfl).trans (fA_ne (by decide)))) ((fA_ne (by decide)).trans ((b2.at 22 rfl).trans (fA_ne (by decide))))) (fun x hx => by rw [fA_at, b2.at 6 rfl, fA_at]; exact (bk1_cong (fun x hx => (bk1_cong hcg2 hn (by omega) (by omega) x hx).trans (congrFun l2 x)) hn (by omega) (by omega) x hx).trans (congrFun k4 x)))
                      refine z_weq (w' := [zH, zG _ _ _ _]) rfl ?_
                      refine z_seq (S' := []) rfl ?_
                      refine z_iload_n F dX6_grow_190 rfl ?_
                      refine z_iconst F (-1) dX6_grow_191 rfl ?_
                      refine z_icmp_eq F (tgt := 204) dX6_grow_192 (by decide) (fun c_192 => ?_) (fun c_192 => ?_)
                      · refine z_iload F dX6_grow_204 rfl ?_
                        refine z_istore_n F dX6_grow_206 (Nat.le_of_ble_eq_true rfl) ?_
                        refine z_leq (L' := [_, _, _, _, _, _, _, _, _]) rfl ?_
                        refine z_iload F dX6_grow_207 rfl ?_
                        refine z_istore F dX6_grow_209 (Nat.le_of_ble_eq_true rfl) ?_
                        refine z_leq (L' := [_, _, _, _, _, _, _, _, _]) rfl ?_
                        refine z_iload F dX6_grow_211 rfl ?_
                        refine z_istore F dX6_grow_213 (Nat.le_of_ble_eq_true rfl) ?_
                        refine z_leq (L' := [_, _, _, _, _, _, _, _, _]) rfl ?_
                        refine z_iincN F 1 dX6_grow_215 rfl rfl ?_
                        refine z_leq (L' := [_, _, _, _, _, _, _, _, _]) rfl ?_
                        refine z_goto F (tgt := 106) dX6_grow_218 (by decide) ?_
                        refine z_loc _ ?_ (fin (some (i, k, cpr (n + 1) (gw2 n f i k))) (by rw [gb2_y hik hap, gv_1 hvl c_192]))
                        exact ⟨rfl, rfl, rfl, rfl, rfl, rfl, rfl, rfl, trivial⟩
                      · refine z_iload F dX6_grow_195 rfl ?_
                        refine z_iload_n F dX6_grow_197 rfl ?_
                        refine z_icmp_lt F (tgt := 204) dX6_grow_198 (by decide) (fun c_198 => ?_) (fun c_198 => ?_)
                        · refine z_iload F dX6_grow_204 rfl ?_
                          refine z_istore_n F dX6_grow_206 (Nat.le_of_ble_eq_true rfl) ?_
                          refine z_leq (L' := [_, _, _, _, _, _, _, _, _]) rfl ?_
                          refine z_iload F dX6_grow_207 rfl ?_
                          refine z_istore F dX6_grow_209 (Nat.le_of_ble_eq_true rfl) ?_
                          refine z_leq (L' := [_, _, _, _, _, _, _, _, _]) rfl ?_
                          refine z_iload F dX6_grow_211 rfl ?_
                          refine z_istore F dX6_grow_213 (Nat.le_of_ble_eq_true rfl) ?_
                          refine z_leq (L' := [_, _, _, _, _, _, _, _, _]) rfl ?_
                          refine z_iincN F 1 dX6_grow_215 rfl rfl ?_
                          refine z_leq (L' := [_, _, _, _, _, _, _, _, _]) rfl ?_
                          refine z_goto F (tgt := 106) dX6_grow_218 (by decide) ?_
                          refine z_loc _ ?_ (fin (some (i, k, cpr (n + 1) (gw2 n f i k))) (by rw [gb2_y hik hap, gv_2 hvl (by omega) c_192 c_198]))
                          exact ⟨rfl, rfl, rfl, rfl, rfl, rfl, rfl, rfl, trivial⟩
                        · refine z_goto F (tgt := 215) dX6_grow_201 (by decide) ?_
                          refine z_iincN F 1 dX6_grow_215 rfl rfl ?_
                          refine z_leq (L' := [_, _, _, _, _, _, _, _, _]) rfl ?_
                          refine z_goto F (tgt := 106) dX6_grow_218 (by decide) ?_
                          refine z_loc _ ?_ (fin (gb2 n f i s k) (by rw [gb2_y hik hap, gv_3 hvl (by omega) c_192 c_198]))
                          exact ⟨rfl, rfl, rfl, rfl, rfl, rfl, rfl, rfl, trivial⟩
                · cases c_140
          · exact absurd c_110 (by omega)
  have loop : ∀ (m i : Nat) (F1 : Nat → Int32) (A1 : Nat → Nat → Int32), L - i < m → i ≤ L → F1 0 = nI 0 → F1 4 = nI (n + 1) → F1 5 = nI d → F1 20 = nI L → frm [0, 4, 5, 20, 24, 25] F0 F1 → frm [6, 21, 22, 23] A A1 → LnE A1 (prs n f) → (∀ k, k < 24 → A1 6 k = f k) → Z X [some (zr 1 0), some (zi (nI j)), some (zi (nI 2)), some (zi (gvI (ga2 n f i))), some (zi (bI1 (ga2 n f i))), some (zi (bI2 (ga2 n f i))), some (zi (nI i)), none, none] [] [zH, zG F1 G A1 B] 0 0 81 := by
    intro m
    induction m with
    | zero => intro i F1 A1 hm; omega
    | succ m ih =>
      intro i F1 A1 hm hi g0 g4 g5 g20 hF hA hE hf1
      have hok := ga2_ok (f := f) hn i (by omega)
      have back : ∀ (F1 : Nat → Int32) (A1 : Nat → Nat → Int32), i < L → F1 0 = nI 0 → F1 4 = nI (n + 1) → F1 5 = nI d → F1 20 = nI L → frm [0, 4, 5, 20, 24, 25] F0 F1 → frm [6, 21, 22, 23] A A1 → LnE A1 (prs n f) → (∀ k, k < 24 → A1 6 k = f k) → Z X [some (zr 1 0), some (zi (nI j)), some (zi (nI 2)), some (zi (gvI (gb2 n f i (ga2 n f i) L))), some (zi (bI1 (gb2 n f i (ga2 n f i) L))), some (zi (bI2 (gb2 n f i (ga2 n f i) L))), some (zi (nI i)), none, none] [] [zH, zG F1 G A1 B] 0 0 221 := by
        intro F1 A1 hlt g0 g4 g5 g20 hF hA hE hf1
        have e : ga2 n f (i + 1) = gb2 n f i (ga2 n f i) L := by rw [ga2, hLe]
        rw [← e]
        refine z_iincN F 1 dX6_grow_221 rfl rfl ?_
        refine z_leq (L' := [_, _, _, _, _, _, _, _, _]) rfl ?_
        refine z_goto F (tgt := 81) dX6_grow_224 (by decide) ?_
        exact ih (i + 1) F1 A1 (by omega) (by omega) g0 g4 g5 g20 hF hA hE hf1
      refine z_iload F dX6_grow_81 rfl ?_
      refine z_aload_n F dX6_grow_83 rfl ?_
      refine z_mi F rfl 20 rfl (Nat.le_of_ble_eq_true rfl) rfl q1500 dX6_grow_84 ?_
      refine z_ieq (g20) ?_
      refine z_icmp_geN F (by omega) (by omega) (tgt := 227) dX6_grow_87 (by decide) (fun c_87 => ?_) (fun c_87 => ?_)
      · have ei : i = L := by omega
        subst ei
        exact J F1 A1 g0 g4 g5 g20 hF hA hE hf1
      · refine z_iload_n F dX6_grow_90 rfl ?_
        refine z_iconst F (nI 1) dX6_grow_91 rfl ?_
        refine z_icmp_neN F (by omega) (by omega) (tgt := 100) dX6_grow_92 (by decide) (fun c_92 => ?_) (fun c_92 => ?_)
        · refine z_iload F dX6_grow_100 rfl ?_
          refine z_iconst F (nI 1) dX6_grow_102 rfl ?_
          refine z_iaddN F dX6_grow_103 ?_
          refine z_istore F dX6_grow_104 (Nat.le_of_ble_eq_true rfl) ?_
          refine z_leq (L' := [_, _, _, _, _, _, _, _, _]) rfl ?_
          have hh := inner i (ga2 n f i) (by omega) hok (fun F1 A1 q0 q4 q5 q20 qF qA qE qf => back F1 A1 (by omega) q0 q4 q5 q20 qF qA qE qf) _ (i + 1) F1 A1 (Nat.lt_succ_self _) (by omega) (by omega) g0 g4 g5 g20 hF hA hE hf1
          rw [gb2_lo _ (Nat.le_refl _)] at hh
          exact hh
        · exact absurd c_92 (by omega)
  refine z_aload_n F dX6_grow_0 rfl ?_
  refine z_iload_n F dX6_grow_1 rfl ?_
  refine z_callV F (c_lays_ok _ _ _ _ j n (nI d) f hj (by omega) h24 hs) 1 rfl (lw_V q1732 q1734 qs42 q117 q1735) (by decide +kernel) ⟨Nat.le_of_ble_eq_true rfl, Nat.le_of_ble_eq_true rfl⟩ ⟨by omega, by omega⟩ [0, 1] 2 ⟨rfl, rfl, rfl, ⟨Or.inl rfl, Or.inr rfl, trivial⟩⟩ (fun h => nomatch h) (Nat.le_of_ble_eq_true rfl) ⟨⟨Or.inr trivial, Or.inl rfl, trivial⟩, rfl, rfl, rfl, Nat.le_of_ble_eq_true rfl⟩ rfl zC6 (zat_G0 rfl) rfl dX6_grow_2 (fun r_2 w_2 hp => ?_) (fun _ _ h => h.elim)
  obtain ⟨rfl, F1, A1, rfl, f0, f1, f2, f3⟩ := hp
  refine z_weq (w' := [zH, zG _ _ _ _]) rfl ?_
  refine z_seq (S' := zi _ :: _) rfl ?_
  refine z_if_eqB F (tgt := 31) dX6_grow_5 (by decide) (fun c_5 => ?_) (fun c_5 => ?_)
  · cases c_5
  · refine z_aload_n F dX6_grow_8 rfl ?_
    refine z_iload_n F dX6_grow_9 rfl ?_
    refine z_iconst F (nI 1) dX6_grow_10 rfl ?_
    refine z_icmp_eqN F (by omega) (by omega) (tgt := 19) dX6_grow_11 (by decide) (fun c_11 => ?_) (fun c_11 => ?_)
    · exact absurd c_11 (by omega)
    · refine z_iload_n F dX6_grow_14 rfl ?_
      refine z_iconst F (nI 2) dX6_grow_15 rfl ?_
      refine z_icmp_neN F (by omega) (by omega) (tgt := 23) dX6_grow_16 (by decide) (fun c_16 => ?_) (fun c_16 => ?_)
      · exact absurd c_16 (by omega)
      · refine z_iconstB F true dX6_grow_19 rfl ?_
        refine z_goto F (tgt := 24) dX6_grow_20 (by decide) ?_
        refine z_iconst F (nI 2) dX6_grow_24 rfl ?_
        refine z_callV F (c_right _ _ _ _ true 2 f0 (by omega) (by omega)) 2 rfl (lw_V q1736 q1738 qs43 q117 q1739) (by decide +kernel) ⟨Nat.le_of_ble_eq_true rfl, Nat.le_of_ble_eq_true rfl⟩ ⟨by omega, by omega⟩ [0, 1] 2 ⟨rfl, rfl, rfl, ⟨Or.inl rfl, Or.inr rfl, trivial⟩⟩ (fun h => nomatch h) (Nat.le_of_ble_eq_true rfl) ⟨⟨Or.inr trivial, Or.inl rfl, trivial⟩, rfl, rfl, rfl, Nat.le_of_ble_eq_true rfl⟩ rfl zC6 (zat_G0 rfl) rfl dX6_grow_25 (fun r_25 w_25 hp => ?_) (fun _ _ h => h.elim)
        obtain ⟨rfl, rfl⟩ := hp
        refine z_weq (w' := [zH, zG _ _ _ _]) rfl ?_
        refine z_seq (S' := zi _ :: _) rfl ?_
        refine z_if_neB F (tgt := 33) dX6_grow_28 (by decide) (fun c_28 => ?_) (fun c_28 => ?_)
        · refine z_aload_n F dX6_grow_33 rfl ?_
          refine z_mi F rfl 4 rfl (Nat.le_of_ble_eq_true rfl) rfl q1484 dX6_grow_34 ?_
          refine z_ieq (f3.1) ?_
          refine z_bipush F (nI 24) dX6_grow_37 rfl ?_
          refine z_icmp_neN F (by omega) (by omega) (tgt := 44) dX6_grow_39 (by decide) (fun c_39 => ?_) (fun c_39 => ?_)
          · refine z_aload_n F dX6_grow_44 rfl ?_
            refine z_callV F (c_lists F1 _ _ _ n f h24 (by omega) f3.1 (fun k hk => f3.2.2 k (by omega))) 0 rfl (lw_V q1868 q1870 qs62 q117 q1871) (by decide +kernel) ⟨Nat.le_of_ble_eq_true rfl, Nat.le_of_ble_eq_true rfl⟩ ⟨by omega, by omega⟩ [0, 1] 2 ⟨rfl, rfl, rfl, ⟨Or.inl rfl, Or.inr rfl, trivial⟩⟩ (fun h => nomatch h) (Nat.le_of_ble_eq_true rfl) ⟨⟨Or.inr trivial, Or.inl rfl, trivial⟩, rfl, rfl, rfl, Nat.le_of_ble_eq_true rfl⟩ rfl zC6 (zat_G0 rfl) rfl dX6_grow_45 (fun r_45 w_45 hp => ?_) (fun _ _ h => h.elim)
            obtain ⟨rfl, A2, rfl, a1, a2⟩ := hp
            rw [hLe]
            refine z_weq (w' := [zH, zG _ _ _ _]) rfl ?_
            refine z_seq (S' := []) rfl ?_
            refine z_aload_n F dX6_grow_48 rfl ?_
            refine z_dup F dX6_grow_49 rfl ?_
            refine z_mi F rfl 4 rfl (Nat.le_of_ble_eq_true rfl) rfl q1484 dX6_grow_50 ?_
            refine z_ieq ((show _ = nI n from f3.1)) ?_
            refine z_iconst F (nI 1) dX6_grow_53 rfl ?_
            refine z_iaddN F dX6_grow_54 ?_
            refine z_pmi F rfl 4 rfl (Nat.le_of_ble_eq_true rfl) rfl q1484 rfl rfl rfl dX6_grow_55 ?_
            refine z_weq (w' := [_, _]) rfl ?_
            refine z_aload_n F dX6_grow_58 rfl ?_
            refine z_ma F rfl 6 rfl (Nat.le_of_ble_eq_true rfl) rfl q1486 dX6_grow_59 ?_
            refine z_aload_n F dX6_grow_62 rfl ?_
            refine z_mi F rfl 4 rfl (Nat.le_of_ble_eq_true rfl) rfl q1484 dX6_grow_63 ?_
            refine z_ieq ((show _ = nI (n + 1) from rfl)) ?_
            refine z_iconst F (nI 1) dX6_grow_66 rfl ?_
            refine z_isubN F (by omega) dX6_grow_67 ?_
            refine z_iconst F (nI 0) dX6_grow_68 rfl ?_
            refine z_iastGN F rfl rfl (Nat.le_of_ble_eq_true rfl) (by omega) dX6_grow_69 ?_
            refine z_weq (w' := [_, _]) rfl ?_
            refine z_iconst F (-1) dX6_grow_70 rfl ?_
            refine z_istore_n F dX6_grow_71 (Nat.le_of_ble_eq_true rfl) ?_
            refine z_leq (L' := [_, _, _, _, _, _, _, _, _]) rfl ?_
            refine z_iconst F (-1) dX6_grow_72 rfl ?_
            refine z_istore F dX6_grow_73 (Nat.le_of_ble_eq_true rfl) ?_
            refine z_leq (L' := [_, _, _, _, _, _, _, _, _]) rfl ?_
            refine z_iconst F (-1) dX6_grow_75 rfl ?_
            refine z_istore F dX6_grow_76 (Nat.le_of_ble_eq_true rfl) ?_
            refine z_leq (L' := [_, _, _, _, _, _, _, _, _]) rfl ?_
            refine z_iconst F (nI 0) dX6_grow_78 rfl ?_
            refine z_istore F dX6_grow_79 (Nat.le_of_ble_eq_true rfl) ?_
            refine z_leq (L' := [_, _, _, _, _, _, _, _, _]) rfl ?_
            refine loop _ 0 _ _ (Nat.lt_succ_self _) (by omega) f0 rfl f3.2.1 rfl (frm_upd (frm_upd (f1.to (by decide)) (by decide)) (by decide)) (frm_zup (f2.tr a1 (by decide) (by decide)) (by decide)) (a2.to (zup2_ne (by decide)) (zup2_ne (by decide))) (fun k hk => ?_)
            rw [zup2_at, Nat.add_sub_cancel]
            by_cases q : k = n
            · rw [if_pos q, q, hfz]
            · rw [if_neg q]; exact (congrFun (a1.at 6 rfl) k).trans (f3.2.2 k hk)
          · exact absurd c_39 (by omega)
        · cases c_28
theorem c_mgrow_full (F0 : Nat → Int32) (G : Nat → Int64) (A : Nat → Nat → Int32) (B : Nat → Nat → Int64) (j d p : Nat) (f : Nat → Int32) (hj : j < 8) (hs : Slt A j 24 (nI d) f) (hp1 : 1 ≤ p) (hp2 : p ≤ 2) :
    zCtr yX6_grow cX6_grow 9 (some .int) 3 0 0 [zr 1 0, zi (nI j), zi (nI p)] [zH, zG F0 G A B] (fun r w => r = some (zi (-1)) ∧ ∃ F' A', w = [zH, zG F' G A' B] ∧ F' 0 = nI 0 ∧ frm [0, 4, 5] F0 F' ∧ frm [6] A A') zNx := by
  refine z_start (by decide) [some (zr 1 0), some (zi (nI j)), some (zi (nI p)), none, none, none, none, none, none] rfl (fun _ => Nat.le_of_ble_eq_true rfl) (fun _ => rfl) (fun X F E hno hin => ?_)
  refine z_aload_n F dX6_grow_0 rfl ?_
  refine z_iload_n F dX6_grow_1 rfl ?_
  refine z_callV F (c_lays_ok _ _ _ _ j 24 (nI d) f hj (by omega) (by omega) hs) 1 rfl (lw_V q1732 q1734 qs42 q117 q1735) (by decide +kernel) ⟨Nat.le_of_ble_eq_true rfl, Nat.le_of_ble_eq_true rfl⟩ ⟨by omega, by omega⟩ [0, 1] 2 ⟨rfl, rfl, rfl, ⟨Or.inl rfl, Or.inr rfl, trivial⟩⟩ (fun h => nomatch h) (Nat.le_of_ble_eq_true rfl) ⟨⟨Or.inr trivial, Or.inl rfl, trivial⟩, rfl, rfl, rfl, Nat.le_of_ble_eq_true rfl⟩ rfl zC6 (zat_G0 rfl) rfl dX6_grow_2 (fun r_2 w_2 hp => ?_) (fun _ _ h => h.elim)
  obtain ⟨rfl, F1, A1, rfl, f0, f1, f2, f3⟩ := hp
  refine z_weq (w' := [zH, zG _ _ _ _]) rfl ?_
  refine z_seq (S' := zi _ :: _) rfl ?_
  refine z_if_eqB F (tgt := 31) dX6_grow_5 (by decide) (fun c_5 => ?_) (fun c_5 => ?_)
  · cases c_5
  · refine z_aload_n F dX6_grow_8 rfl ?_
    refine z_iload_n F dX6_grow_9 rfl ?_
    refine z_iconst F (nI 1) dX6_grow_10 rfl ?_
    refine z_icmp_eqN F (by omega) (by omega) (tgt := 19) dX6_grow_11 (by decide) (fun c_11 => ?_) (fun c_11 => ?_)
    · refine z_iconstB F true dX6_grow_19 rfl ?_
      refine z_goto F (tgt := 24) dX6_grow_20 (by decide) ?_
      refine z_iconst F (nI 2) dX6_grow_24 rfl ?_
      refine z_callV F (c_right _ _ _ _ true 2 f0 (by omega) (by omega)) 2 rfl (lw_V q1736 q1738 qs43 q117 q1739) (by decide +kernel) ⟨Nat.le_of_ble_eq_true rfl, Nat.le_of_ble_eq_true rfl⟩ ⟨by omega, by omega⟩ [0, 1] 2 ⟨rfl, rfl, rfl, ⟨Or.inl rfl, Or.inr rfl, trivial⟩⟩ (fun h => nomatch h) (Nat.le_of_ble_eq_true rfl) ⟨⟨Or.inr trivial, Or.inl rfl, trivial⟩, rfl, rfl, rfl, Nat.le_of_ble_eq_true rfl⟩ rfl zC6 (zat_G0 rfl) rfl dX6_grow_25 (fun r_25 w_25 hp => ?_) (fun _ _ h => h.elim)
      obtain ⟨rfl, rfl⟩ := hp
      refine z_weq (w' := [zH, zG _ _ _ _]) rfl ?_
      refine z_seq (S' := zi _ :: _) rfl ?_
      refine z_if_neB F (tgt := 33) dX6_grow_28 (by decide) (fun c_28 => ?_) (fun c_28 => ?_)
      · refine z_aload_n F dX6_grow_33 rfl ?_
        refine z_mi F rfl 4 rfl (Nat.le_of_ble_eq_true rfl) rfl q1484 dX6_grow_34 ?_
        refine z_ieq (f3.1) ?_
        refine z_bipush F (nI 24) dX6_grow_37 rfl ?_
        refine z_icmp_neN F (by omega) (by omega) (tgt := 44) dX6_grow_39 (by decide) (fun c_39 => ?_) (fun c_39 => ?_)
        · exact absurd c_39 (by omega)
        · refine z_iconst F (-1) dX6_grow_42 rfl ?_
          exact z_iret F E rfl dX6_grow_43 (by omega) (by omega) (⟨rfl, F1, A1, rfl, f0, f1, f2⟩)
      · cases c_28
    · refine z_iload_n F dX6_grow_14 rfl ?_
      refine z_iconst F (nI 2) dX6_grow_15 rfl ?_
      refine z_icmp_neN F (by omega) (by omega) (tgt := 23) dX6_grow_16 (by decide) (fun c_16 => ?_) (fun c_16 => ?_)
      · exact absurd c_16 (by omega)
      · refine z_iconstB F true dX6_grow_19 rfl ?_
        refine z_goto F (tgt := 24) dX6_grow_20 (by decide) ?_
        refine z_iconst F (nI 2) dX6_grow_24 rfl ?_
        refine z_callV F (c_right _ _ _ _ true 2 f0 (by omega) (by omega)) 2 rfl (lw_V q1736 q1738 qs43 q117 q1739) (by decide +kernel) ⟨Nat.le_of_ble_eq_true rfl, Nat.le_of_ble_eq_true rfl⟩ ⟨by omega, by omega⟩ [0, 1] 2 ⟨rfl, rfl, rfl, ⟨Or.inl rfl, Or.inr rfl, trivial⟩⟩ (fun h => nomatch h) (Nat.le_of_ble_eq_true rfl) ⟨⟨Or.inr trivial, Or.inl rfl, trivial⟩, rfl, rfl, rfl, Nat.le_of_ble_eq_true rfl⟩ rfl zC6 (zat_G0 rfl) rfl dX6_grow_25 (fun r_25 w_25 hp => ?_) (fun _ _ h => h.elim)
        obtain ⟨rfl, rfl⟩ := hp
        refine z_weq (w' := [zH, zG _ _ _ _]) rfl ?_
        refine z_seq (S' := zi _ :: _) rfl ?_
        refine z_if_neB F (tgt := 33) dX6_grow_28 (by decide) (fun c_28 => ?_) (fun c_28 => ?_)
        · refine z_aload_n F dX6_grow_33 rfl ?_
          refine z_mi F rfl 4 rfl (Nat.le_of_ble_eq_true rfl) rfl q1484 dX6_grow_34 ?_
          refine z_ieq (f3.1) ?_
          refine z_bipush F (nI 24) dX6_grow_37 rfl ?_
          refine z_icmp_neN F (by omega) (by omega) (tgt := 44) dX6_grow_39 (by decide) (fun c_39 => ?_) (fun c_39 => ?_)
          · exact absurd c_39 (by omega)
          · refine z_iconst F (-1) dX6_grow_42 rfl ?_
            exact z_iret F E rfl dX6_grow_43 (by omega) (by omega) (⟨rfl, F1, A1, rfl, f0, f1, f2⟩)
        · cases c_28
theorem c_mgrow_bad (F0 : Nat → Int32) (G : Nat → Int64) (A : Nat → Nat → Int32) (B : Nat → Nat → Int64) (j n d : Nat) (f : Nat → Int32) (x : Int32) (hj : j < 8) (h : nok n d f) (hs : Slt A j n (nI d) f) (hx : ∀ i, 1 ≤ i → i ≤ 2 → x ≠ nI i) :
    zCtr yX6_grow cX6_grow 9 (some .int) 3 0 0 [zr 1 0, zi (nI j), zi x] [zH, zG F0 G A B] (fun r w => r = some (zi (nI 0)) ∧ ∃ F' A', w = [zH, zG F' G A' B] ∧ F' 0 = nI 2 ∧ frm [0, 4, 5] F0 F' ∧ frm [6] A A') zNx := by
  refine z_start (by decide) [some (zr 1 0), some (zi (nI j)), some (zi x), none, none, none, none, none, none] rfl (fun _ => Nat.le_of_ble_eq_true rfl) (fun _ => rfl) (fun X F E hno hin => ?_)
  have h1 := h.n1
  refine z_aload_n F dX6_grow_0 rfl ?_
  refine z_iload_n F dX6_grow_1 rfl ?_
  refine z_callV F (c_lays_ok _ _ _ _ j n (nI d) f hj (by omega) h.n24 hs) 1 rfl (lw_V q1732 q1734 qs42 q117 q1735) (by decide +kernel) ⟨Nat.le_of_ble_eq_true rfl, Nat.le_of_ble_eq_true rfl⟩ ⟨by omega, by omega⟩ [0, 1] 2 ⟨rfl, rfl, rfl, ⟨Or.inl rfl, Or.inr rfl, trivial⟩⟩ (fun h => nomatch h) (Nat.le_of_ble_eq_true rfl) ⟨⟨Or.inr trivial, Or.inl rfl, trivial⟩, rfl, rfl, rfl, Nat.le_of_ble_eq_true rfl⟩ rfl zC6 (zat_G0 rfl) rfl dX6_grow_2 (fun r_2 w_2 hp => ?_) (fun _ _ h => h.elim)
  obtain ⟨rfl, F1, A1, rfl, f0, f1, f2, f3⟩ := hp
  refine z_weq (w' := [zH, zG _ _ _ _]) rfl ?_
  refine z_seq (S' := zi _ :: _) rfl ?_
  refine z_if_eqB F (tgt := 31) dX6_grow_5 (by decide) (fun c_5 => ?_) (fun c_5 => ?_)
  · cases c_5
  · refine z_aload_n F dX6_grow_8 rfl ?_
    refine z_iload_n F dX6_grow_9 rfl ?_
    refine z_iconst F (nI 1) dX6_grow_10 rfl ?_
    refine z_icmp_eq F (tgt := 19) dX6_grow_11 (by decide) (fun c_11 => ?_) (fun c_11 => ?_)
    · exact absurd c_11 (hx 1 (by omega) (by omega))
    · refine z_iload_n F dX6_grow_14 rfl ?_
      refine z_iconst F (nI 2) dX6_grow_15 rfl ?_
      refine z_icmp_ne F (tgt := 23) dX6_grow_16 (by decide) (fun c_16 => ?_) (fun c_16 => ?_)
      · refine z_iconstB F false dX6_grow_23 rfl ?_
        refine z_iconst F (nI 2) dX6_grow_24 rfl ?_
        refine z_callV F (c_right _ _ _ _ false 2 f0 (by omega) (by omega)) 2 rfl (lw_V q1736 q1738 qs43 q117 q1739) (by decide +kernel) ⟨Nat.le_of_ble_eq_true rfl, Nat.le_of_ble_eq_true rfl⟩ ⟨by omega, by omega⟩ [0, 1] 2 ⟨rfl, rfl, rfl, ⟨Or.inl rfl, Or.inr rfl, trivial⟩⟩ (fun h => nomatch h) (Nat.le_of_ble_eq_true rfl) ⟨⟨Or.inr trivial, Or.inl rfl, trivial⟩, rfl, rfl, rfl, Nat.le_of_ble_eq_true rfl⟩ rfl zC6 (zat_G0 rfl) rfl dX6_grow_25 (fun r_25 w_25 hp => ?_) (fun _ _ h => h.elim)
        obtain ⟨rfl, rfl⟩ := hp
        refine z_weq (w' := [zH, zG _ _ _ _]) rfl ?_
        refine z_seq (S' := zi _ :: _) rfl ?_
        refine z_if_neB F (tgt := 33) dX6_grow_28 (by decide) (fun c_28 => ?_) (fun c_28 => ?_)
        · cases c_28
        · refine z_iconst F (nI 0) dX6_grow_31 rfl ?_
          exact z_iret F E rfl dX6_grow_32 (by omega) (by omega) (⟨rfl, _, A1, rfl, rfl, frm_upd f1 (by decide), f2⟩)
      · exact absurd c_16 (hx 2 (by omega) (by omega))
end C66
