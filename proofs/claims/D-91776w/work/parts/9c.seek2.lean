/-! seek: Seek and WiredNets' operation -/
section C9c
def skn (kd a b : Nat) : Nat → Nat
  | 0 => 0
  | s + 1 => if 1 ≤ s ∧ s ≤ gop kd a b s then skn kd a b s + 1 else skn kd a b s
def sku (kd a b : Nat) : Nat → Nat → Int32
  | 0 => fun _ => 0
  | s + 1 => if 1 ≤ s ∧ s ≤ gop kd a b s then upd (sku kd a b s) (skn kd a b s) (b1 s ||| b1 (gop kd a b s)) else sku kd a b s
theorem skn_le (kd a b : Nat) : ∀ s, skn kd a b s ≤ s - 1
  | 0 => Nat.le_refl _
  | s + 1 => by
    have := skn_le kd a b s
    rw [skn]
    split <;> omega
theorem sku_bits {kd a b : Nat} (h : grok kd a b) : ∀ s, s ≤ a * b → ∀ i t, bt (sku kd a b s i) t = true → t < a * b
  | 0, _, i, t, ht => by
    have e : bt (0 : Int32) t = true := ht
    rw [show bt (0 : Int32) t = false from b_0 t] at e; cases e
  | s + 1, hs, i, t, ht => by
    have h4 := h.2.2.2.1
    have hl := gop_lt h (show s < a * b by omega)
    rw [sku] at ht
    split at ht
    · rw [upd_at] at ht
      split at ht
      · rw [b_or, bt_b1 (by omega), bt_b1 (by omega)] at ht
        simp only [Bool.or_eq_true, decide_eq_true_eq] at ht
        omega
      · exact sku_bits h s (by omega) i t ht
    · exact sku_bits h s (by omega) i t ht
def goF (V : Int32 → Option (Nat × Nat)) (U : Nat → Int32) (most : Nat) : Nat → Nat → Int32 → sBs → sBs
  | 0, _, c, B => lkF (V c) c B
  | k + 1, u, c, B => if pc32 (c ||| U u) ≤ most then goF V U most k (u + 1) (c ||| U u) (goF V U most k (u + 1) c B) else goF V U most k (u + 1) c B
abbrev wGo (v1 v2 v3 : Int32) (bm bf bs : Int32) (U : Nat → Int32) (Th : Nat → Nat → Int32) (La Fa : Nat → Int32) : List zE := [zH, zO 11 [zr 2 0, zi v1, zi v2, zr 3 0, zr 4 0, zr 5 0, zr 6 0, zi v3, zi bm, zi bf, zi bs], zH, zAi 0 24 U, zMi 4 0 24 24 Th, zAi 0 24 La, zAi 0 24 Fa]
theorem c_skGo (kd a b most uM : Nat) (U : Nat → Int32) (Th : Nat → Nat → Int32) (h : grok kd a b) (hm : most < 9) (hu24 : uM ≤ 24) (hU : ∀ i t, bt (U i) t = true → t < a * b) (hT : ∀ x s, x < a * b → s < a * b → Th x s = nI (gth kd a b x s)) : ∀ (k u : Nat) (c bm bf bs : Int32) (B : sBs) (La Fa : Nat → Int32), u + k = uM → (∀ i, bt c i = true → i < a * b) → skB B bm bf bs →
    zCtr yX11_go cX11_go 3 none (k + 3) 0 0 [zr 1 0, zi (nI u), zi c] (wGo (nI most) (allB (a * b)) (nI uM) bm bf bs U Th La Fa) (fun r w => r = none ∧ ∃ bm' bf' bs' La' Fa', w = wGo (nI most) (allB (a * b)) (nI uM) bm' bf' bs' U Th La' Fa' ∧ skB (goF (skV kd a b) U most k u c B) bm' bf' bs') zNx := by
  intro k
  induction k with
  | zero =>
    intro u c bm bf bs B La Fa hu hc hB
    refine z_start (by decide) [some (zr 1 0), some (zi (nI u)), some (zi c)] rfl (fun _ => Nat.le_of_ble_eq_true rfl) (fun _ => rfl) (fun X F E hno hin => ?_)
    refine z_iload_n F dX11_go_0 rfl ?_
    refine z_aload_n F dX11_go_1 rfl ?_
    refine z_get F zC11 (f := 7) rfl (Nat.le_of_ble_eq_true rfl) q971 rfl dX11_go_2 ?_
    refine z_icmp_neN F (by omega) (by omega) (tgt := 14) dX11_go_5 (by decide) (fun c_5 => ?_) (fun c_5 => ?_)
    · exact absurd c_5 (by omega)
    · refine z_aload_n F dX11_go_8 rfl ?_
      refine z_iload_n F dX11_go_9 rfl ?_
      refine z_callV F (c_skLook kd a b c (nI most) (nI uM) bm bf bs B Th La Fa h hc hT hB) 1 rfl (lw_V q1006 q1008 qs18 q134 q1009) (by decide +kernel) ⟨Nat.le_of_ble_eq_true rfl, Nat.le_of_ble_eq_true rfl⟩ ⟨by omega, by omega⟩ [0, 1, 2, 3, 4, 5, 6] 7 ⟨rfl, rfl, rfl, ⟨Or.inl rfl, Or.inr rfl, Or.inl rfl, Or.inl rfl, Or.inr rfl, Or.inr rfl, Or.inr rfl, trivial⟩⟩ (fun h => nomatch h) (Nat.le_of_ble_eq_true rfl) ⟨⟨Or.inr trivial, Or.inl rfl, Or.inr trivial, Or.inr trivial, Or.inl rfl, Or.inl rfl, Or.inl rfl, trivial⟩, rfl, rfl, rfl, Nat.le_of_ble_eq_true rfl⟩ rfl zC11 rfl rfl dX11_go_10 (fun r_10 w_10 hp => ?_) (fun _ _ h => h.elim)
      obtain ⟨rfl, bm', bf', bs', La', Fa', rfl, hB'⟩ := hp
      refine z_weq (w' := [zH, zO _ [zr _ _, zi _, zi _, zr _ _, zr _ _, zr _ _, zr _ _, zi _, zi _, zi _, zi _], zH, zAi 0 24 _, zMi 4 0 24 24 _, zAi 0 24 _, zAi 0 24 _]) rfl ?_
      refine z_seq (S' := []) rfl ?_
      exact z_vret F E rfl dX11_go_13 (by omega) (by omega) (⟨rfl, bm', bf', bs', La', Fa', rfl, hB'⟩)

  | succ k ih =>
    intro u c bm bf bs B La Fa hu hc hB
    have hc2 : ∀ i, bt (c ||| U u) i = true → i < a * b := fun i hi => by
      rw [b_or, Bool.or_eq_true] at hi
      exact hi.elim (hc i) (hU u i)
    have p1 := pc32_le (c ||| U u)
    refine z_start (by decide) [some (zr 1 0), some (zi (nI u)), some (zi c)] rfl (fun _ => Nat.le_of_ble_eq_true rfl) (fun _ => rfl) (fun X F E hno hin => ?_)
    refine z_iload_n F dX11_go_0 rfl ?_
    refine z_aload_n F dX11_go_1 rfl ?_
    refine z_get F zC11 (f := 7) rfl (Nat.le_of_ble_eq_true rfl) q971 rfl dX11_go_2 ?_
    refine z_icmp_neN F (by omega) (by omega) (tgt := 14) dX11_go_5 (by decide) (fun c_5 => ?_) (fun c_5 => ?_)
    · refine z_aload_n F dX11_go_14 rfl ?_
      refine z_iload_n F dX11_go_15 rfl ?_
      refine z_iconst F (nI 1) dX11_go_16 rfl ?_
      refine z_iaddN F dX11_go_17 ?_
      refine z_iload_n F dX11_go_18 rfl ?_
      refine z_callV F (ih (u + 1) c bm bf bs B La Fa (by omega) hc hB) 2 rfl (lw_V q1002 q1004 qs17 q134 q1005) (by decide +kernel) ⟨by omega, Nat.le_of_ble_eq_true rfl⟩ ⟨by omega, by omega⟩ [0, 1, 2, 3, 4, 5, 6] 7 ⟨rfl, rfl, rfl, ⟨Or.inl rfl, Or.inr rfl, Or.inl rfl, Or.inr rfl, Or.inr rfl, Or.inr rfl, Or.inr rfl, trivial⟩⟩ (fun h => nomatch h) (Nat.le_of_ble_eq_true rfl) ⟨⟨Or.inr trivial, Or.inl rfl, Or.inr trivial, Or.inl rfl, Or.inl rfl, Or.inl rfl, Or.inl rfl, trivial⟩, rfl, rfl, rfl, Nat.le_of_ble_eq_true rfl⟩ rfl zC11 rfl rfl dX11_go_19 (fun r_19 w_19 hp => ?_) (fun _ _ h => h.elim)
      obtain ⟨rfl, bm1, bf1, bs1, La1, Fa1, rfl, hB1⟩ := hp
      refine z_weq (w' := [zH, zO _ [zr _ _, zi _, zi _, zr _ _, zr _ _, zr _ _, zr _ _, zi _, zi _, zi _, zi _], zH, zAi 0 24 _, zMi 4 0 24 24 _, zAi 0 24 _, zAi 0 24 _]) rfl ?_
      refine z_seq (S' := []) rfl ?_
      refine z_iload_n F dX11_go_22 rfl ?_
      refine z_aload_n F dX11_go_23 rfl ?_
      refine z_get F zC11 (f := 3) rfl (Nat.le_of_ble_eq_true rfl) q967 rfl dX11_go_24 ?_
      refine z_iload_n F dX11_go_27 rfl ?_
      refine z_ialdN F rfl (Nat.le_of_ble_eq_true rfl) (by omega) rfl dX11_go_28 ?_
      refine z_ior F dX11_go_29 ?_
      refine z_callS F (c_bitCount (HOr.hOr c (U u))) 1 rfl (lw_S q1015 q395 q123 q396) (by decide +kernel) ⟨by omega, Nat.le_of_ble_eq_true rfl⟩ ⟨by omega, by omega⟩ [0] 7 ⟨rfl, rfl, rfl, ⟨Or.inl rfl, trivial⟩⟩ (fun h => nomatch h) (Nat.le_of_ble_eq_true rfl) ⟨⟨Or.inr trivial, Or.inr rfl, Or.inr trivial, Or.inr trivial, Or.inr trivial, Or.inr trivial, Or.inr trivial, trivial⟩, rfl, rfl, rfl, Nat.le_of_ble_eq_true rfl⟩ rfl rfl dX11_go_30 (fun r_30 w_30 hp => ?_) (fun _ _ h => h.elim)
      obtain ⟨rfl, rfl⟩ := hp
      refine z_weq (w' := [zH, zO _ [zr _ _, zi _, zi _, zr _ _, zr _ _, zr _ _, zr _ _, zi _, zi _, zi _, zi _], zH, zAi 0 24 _, zMi 4 0 24 24 _, zAi 0 24 _, zAi 0 24 _]) rfl ?_
      refine z_seq (S' := zi _ :: _) rfl ?_
      refine z_aload_n F dX11_go_33 rfl ?_
      refine z_get F zC11 (f := 1) rfl (Nat.le_of_ble_eq_true rfl) q965 rfl dX11_go_34 ?_
      refine z_icmp_gtN F (by omega) (by omega) (tgt := 55) dX11_go_37 (by decide) (fun c_37 => ?_) (fun c_37 => ?_)
      · exact z_vret F E rfl dX11_go_55 (by omega) (by omega) (⟨rfl, bm1, bf1, bs1, La1, Fa1, rfl, by rw [goF, if_neg (by omega)]; exact hB1⟩)
      · refine z_aload_n F dX11_go_40 rfl ?_
        refine z_iload_n F dX11_go_41 rfl ?_
        refine z_iconst F (nI 1) dX11_go_42 rfl ?_
        refine z_iaddN F dX11_go_43 ?_
        refine z_iload_n F dX11_go_44 rfl ?_
        refine z_aload_n F dX11_go_45 rfl ?_
        refine z_get F zC11 (f := 3) rfl (Nat.le_of_ble_eq_true rfl) q967 rfl dX11_go_46 ?_
        refine z_iload_n F dX11_go_49 rfl ?_
        refine z_ialdN F rfl (Nat.le_of_ble_eq_true rfl) (by omega) rfl dX11_go_50 ?_
        refine z_ior F dX11_go_51 ?_
        refine z_callV F (ih (u + 1) (HOr.hOr c (U u)) bm1 bf1 bs1 _ La1 Fa1 (by omega) hc2 hB1) 2 rfl (lw_V q1002 q1004 qs17 q134 q1005) (by decide +kernel) ⟨by omega, Nat.le_of_ble_eq_true rfl⟩ ⟨by omega, by omega⟩ [0, 1, 2, 3, 4, 5, 6] 7 ⟨rfl, rfl, rfl, ⟨Or.inl rfl, Or.inr rfl, Or.inl rfl, Or.inr rfl, Or.inr rfl, Or.inr rfl, Or.inr rfl, trivial⟩⟩ (fun h => nomatch h) (Nat.le_of_ble_eq_true rfl) ⟨⟨Or.inr trivial, Or.inl rfl, Or.inr trivial, Or.inl rfl, Or.inl rfl, Or.inl rfl, Or.inl rfl, trivial⟩, rfl, rfl, rfl, Nat.le_of_ble_eq_true rfl⟩ rfl zC11 rfl rfl dX11_go_52 (fun r_52 w_52 hp => ?_) (fun _ _ h => h.elim)
        obtain ⟨rfl, bm2, bf2, bs2, La2, Fa2, rfl, hB2⟩ := hp
        refine z_weq (w' := [zH, zO _ [zr _ _, zi _, zi _, zr _ _, zr _ _, zr _ _, zr _ _, zi _, zi _, zi _, zi _], zH, zAi 0 24 _, zMi 4 0 24 24 _, zAi 0 24 _, zAi 0 24 _]) rfl ?_
        refine z_seq (S' := []) rfl ?_
        exact z_vret F E rfl dX11_go_55 (by omega) (by omega) (⟨rfl, bm2, bf2, bs2, La2, Fa2, rfl, by rw [goF, if_pos (by omega)]; exact hB2⟩)
    · exact absurd c_5 (by omega)
def skM (B : sBs) : Int32 := match B with
  | none => -1
  | some (m, _, _) => m
theorem skB_m {B : sBs} {x y z : Int32} (h : skB B x y z) : x = skM B := by
  rcases B with _ | ⟨m, f, s⟩
  · exact h
  · exact h.1
noncomputable def skR (kd a b most : Nat) : Int32 := skM (goF (skV kd a b) (sku kd a b (a * b)) most (skn kd a b (a * b)) 0 0 none)
theorem c_skRun (kd a b most : Nat) (Th : Nat → Nat → Int32) (La Fa : Nat → Int32) (bf bs : Int32) (h : grok kd a b) (hm : most < 9) (hT : ∀ x s, x < a * b → s < a * b → Th x s = nI (gth kd a b x s)) :
    zCtr yX11_run cX11_run 1 (some .int) 30 0 0 [zr 1 0] (wGo (nI most) (allB (a * b)) (nI (skn kd a b (a * b))) (-1) bf bs (sku kd a b (a * b)) Th La Fa) (fun r w => r = some (zi (skR kd a b most)) ∧ ∃ bm' bf' bs' La' Fa', w = wGo (nI most) (allB (a * b)) (nI (skn kd a b (a * b))) bm' bf' bs' (sku kd a b (a * b)) Th La' Fa') zNx := by
  refine z_start (by decide) [some (zr 1 0)] rfl (fun _ => Nat.le_of_ble_eq_true rfl) (fun _ => rfl) (fun X F E hno hin => ?_)
  have h4 := h.2.2.2.1
  have hl := skn_le kd a b (a * b)
  refine z_aload_n F dX11_run_0 rfl ?_
  refine z_iconst F (nI 0) dX11_run_1 rfl ?_
  refine z_iconst F (nI 0) dX11_run_2 rfl ?_
  refine z_callV F (c_skGo kd a b most (skn kd a b (a * b)) (sku kd a b (a * b)) Th h hm (by omega) (fun i t => sku_bits h _ (Nat.le_refl _) i t) hT (skn kd a b (a * b)) 0 (nI 0) (-1) bf bs none La Fa (by omega) (fun i hi => by rw [show bt (nI 0) i = false from b_0 i] at hi; cases hi) rfl) 2 rfl (lw_V q1002 q1004 qs17 q134 q1005) (by decide +kernel) ⟨by omega, Nat.le_of_ble_eq_true rfl⟩ ⟨by omega, by omega⟩ [0, 1, 2, 3, 4, 5, 6] 7 ⟨rfl, rfl, rfl, ⟨Or.inl rfl, Or.inr rfl, Or.inl rfl, Or.inr rfl, Or.inr rfl, Or.inr rfl, Or.inr rfl, trivial⟩⟩ (fun h => nomatch h) (Nat.le_of_ble_eq_true rfl) ⟨⟨Or.inr trivial, Or.inl rfl, Or.inr trivial, Or.inl rfl, Or.inl rfl, Or.inl rfl, Or.inl rfl, trivial⟩, rfl, rfl, rfl, Nat.le_of_ble_eq_true rfl⟩ rfl zC11 rfl rfl dX11_run_3 (fun r_3 w_3 hp => ?_) (fun _ _ h => h.elim)
  obtain ⟨rfl, bm', bf', bs', La', Fa', rfl, hB'⟩ := hp
  refine z_weq (w' := [zH, zO _ [zr _ _, zi _, zi _, zr _ _, zr _ _, zr _ _, zr _ _, zi _, zi _, zi _, zi _], zH, zAi 0 24 _, zMi 4 0 24 24 _, zAi 0 24 _, zAi 0 24 _]) rfl ?_
  refine z_seq (S' := []) rfl ?_
  refine z_aload_n F dX11_run_6 rfl ?_
  refine z_get F zC11 (f := 8) rfl (Nat.le_of_ble_eq_true rfl) q972 rfl dX11_run_7 ?_
  exact z_iret F E rfl dX11_run_10 (by omega) (by omega) (⟨by rw [skB_m hB']; rfl, bm', bf', bs', La', Fa', rfl⟩)
theorem c_skInit (kd a b most : Nat) (h : grok kd a b) : zCtr yX11_init cX11_init 5 none 3 40 800 [zr 1 0, zr 2 0, zi (nI most)] [zH, zO 11 [zn, zi 0, zi 0, zn, zn, zn, zn, zi 0, zi 0, zi 0, zi 0], eGr kd a b] (fun r w => r = none ∧ ∃ Th, (∀ x s, x < a * b → s < a * b → Th x s = nI (gth kd a b x s)) ∧ w = [zH, zO 11 [zr 2 0, zi (nI most), zi (allB (a * b)), zr 3 0, zr 4 0, zr 5 0, zr 6 0, zi (nI (skn kd a b (a * b))), zi (-1), zi 0, zi 0], eGr kd a b, zAi 0 24 (sku kd a b (a * b)), zMi 4 0 24 24 Th, zAi 0 24 (fun _ => 0), zAi 0 24 (fun _ => 0)]) zNx := by
  refine z_start (by decide) [some (zr 1 0), some (zr 2 0), some (zi (nI most)), none, none] rfl (fun _ => Nat.le_of_ble_eq_true rfl) (fun _ => rfl) (fun X F E hno hin => ?_)
  have h4 := h.2.2.2.1
  have h0 : 0 < a * b := Nat.mul_pos h.2.1 h.2.2.1
  have us : ∀ (Th : Nat → Nat → Int32), (∀ x s, x < a * b → s < a * b → Th x s = nI (gth kd a b x s)) → ∀ (m s : Nat), a * b - s < m → 1 ≤ s → s ≤ a * b → Z X [some (zr 1 0), some (zr 2 0), some (zi (nI most)), some (zi (nI s)), none] [] [zH, zO 11 [zr 2 0, zi (nI most), zi (allB (a * b)), zr 3 0, zr 4 0, zr 5 0, zr 6 0, zi (nI (skn kd a b s)), zi (-1), zi 0, zi 0], eGr kd a b, zAi 0 24 (sku kd a b s), zMi 4 0 24 24 Th, zAi 0 24 (fun _ => 0), zAi 0 24 (fun _ => 0)] 40 800 119 := by
    intro Th hT m
    induction m with
    | zero => intro s hm; omega
    | succ m ih =>
      intro s hm h1 hs
      have hl := skn_le kd a b s
      have i1 : s < a * b → _ := fun z => ih (s + 1) (by omega) (by omega) z
      rw [skn, sku] at i1
      have hgl : s < a * b → gop kd a b s < a * b := fun z => gop_lt h z
      refine z_iload_n F dX11_init_119 rfl ?_
      refine z_aload_n F dX11_init_120 rfl ?_
      refine z_getN F zC9 (f := 2) rfl (Nat.le_of_ble_eq_true rfl) q382 rfl dX11_init_121 ?_
      refine z_icmp_geN F (by omega) (by omega) (tgt := 176) dX11_init_124 (by decide) (fun c_124 => ?_) (fun c_124 => ?_)
      · exact z_vret F E rfl dX11_init_176 (by omega) (by omega) (⟨rfl, Th, hT, by rw [show s = a * b by omega]⟩)
      · have i1 := i1 (by omega)
        have hgl := hgl (by omega)
        refine z_aload_n F dX11_init_127 rfl ?_
        refine z_iload_n F dX11_init_128 rfl ?_
        refine z_callV F (c_gopp kd a b s h (by omega)) 1 rfl (lw_V q963 q401 q402 q132 q403) (by decide +kernel) ⟨Nat.le_of_ble_eq_true rfl, Nat.le_of_ble_eq_true rfl⟩ ⟨by omega, by omega⟩ [0, 2] 7 ⟨rfl, rfl, rfl, ⟨Or.inl rfl, Or.inr rfl, trivial⟩⟩ (fun h => nomatch h) (Nat.le_of_ble_eq_true rfl) ⟨⟨Or.inr trivial, Or.inr rfl, Or.inl rfl, Or.inr trivial, Or.inr trivial, Or.inr trivial, Or.inr trivial, trivial⟩, rfl, rfl, rfl, Nat.le_of_ble_eq_true rfl⟩ rfl zC9 rfl rfl dX11_init_129 (fun r_129 w_129 hp => ?_) (fun _ _ h => h.elim)
        obtain ⟨rfl, rfl⟩ := hp
        refine z_weq (w' := [zH, zO _ [zr _ _, zi _, zi _, zr _ _, zr _ _, zr _ _, zr _ _, zi _, zi _, zi _, zi _], zO _ [zi _, zi _, zi _], zAi 0 24 _, zMi 4 0 24 24 _, zAi 0 24 _, zAi 0 24 _]) rfl ?_
        refine z_seq (S' := zi _ :: _) rfl ?_
        refine z_istore F dX11_init_132 (Nat.le_of_ble_eq_true rfl) ?_
        refine z_leq (L' := [_, _, _, _, _]) rfl ?_
        refine z_iload F dX11_init_134 rfl ?_
        refine z_iload_n F dX11_init_136 rfl ?_
        refine z_icmp_geN F (by omega) (by omega) (tgt := 143) dX11_init_137 (by decide) (fun c_137 => ?_) (fun c_137 => ?_)
        · refine z_aload_n F dX11_init_143 rfl ?_
          refine z_get F zC11 (f := 3) rfl (Nat.le_of_ble_eq_true rfl) q967 rfl dX11_init_144 ?_
          refine z_aload_n F dX11_init_147 rfl ?_
          refine z_get F zC11 (f := 7) rfl (Nat.le_of_ble_eq_true rfl) q971 rfl dX11_init_148 ?_
          refine z_iconst F (nI 1) dX11_init_151 rfl ?_
          refine z_iload_n F dX11_init_152 rfl ?_
          refine z_ishlB F dX11_init_153 ?_
          refine z_iconst F (nI 1) dX11_init_154 rfl ?_
          refine z_iload F dX11_init_155 rfl ?_
          refine z_ishlB F dX11_init_157 ?_
          refine z_ior F dX11_init_158 ?_
          refine z_iastN F rfl (Nat.le_of_ble_eq_true rfl) (by omega) dX11_init_159 ?_
          refine z_weq (w' := [_, _, _, _, _, _, _]) rfl ?_
          refine z_aload_n F dX11_init_160 rfl ?_
          refine z_dup F dX11_init_161 rfl ?_
          refine z_get F zC11 (f := 7) rfl (Nat.le_of_ble_eq_true rfl) q971 rfl dX11_init_162 ?_
          refine z_iconst F (nI 1) dX11_init_165 rfl ?_
          refine z_iaddN F dX11_init_166 ?_
          refine z_put F zC11 (f := 7) rfl (Nat.le_of_ble_eq_true rfl) q971 rfl (fun _ => rfl) (fun _ => rfl) (Nat.le_of_ble_eq_true rfl) dX11_init_167 ?_
          refine z_weq (w' := [_, zO _ [_, _, _, _, _, _, _, _, _, _, _], _, _, _, _, _]) rfl ?_
          refine z_iincN F 1 dX11_init_170 rfl rfl ?_
          refine z_leq (L' := [_, _, _, _, _]) rfl ?_
          refine z_goto F (tgt := 119) dX11_init_173 (by decide) ?_
          rw [if_pos ⟨h1, by omega⟩, if_pos ⟨h1, by omega⟩] at i1
          refine z_loc _ ?_ i1
          exact ⟨rfl, rfl, rfl, rfl, trivial⟩
        · refine z_goto F (tgt := 170) dX11_init_140 (by decide) ?_
          refine z_iincN F 1 dX11_init_170 rfl rfl ?_
          refine z_leq (L' := [_, _, _, _, _]) rfl ?_
          refine z_goto F (tgt := 119) dX11_init_173 (by decide) ?_
          rw [if_neg (by omega), if_neg (by omega)] at i1
          refine z_loc _ ?_ i1
          exact ⟨rfl, rfl, rfl, rfl, trivial⟩
  have row : ∀ (x : Nat), x < a * b → (∀ Th, (∀ u s, u < a * b → s < a * b → u < x + 1 → Th u s = nI (gth kd a b u s)) → Z X [some (zr 1 0), some (zr 2 0), some (zi (nI most)), some (zi (nI (x + 1))), none] [] [zH, zO 11 [zr 2 0, zi (nI most), zi (allB (a * b)), zr 3 0, zr 4 0, zr 5 0, zr 6 0, zi 0, zi (-1), zi 0, zi 0], eGr kd a b, zAi 0 24 (fun _ => 0), zMi 4 0 24 24 Th, zAi 0 24 (fun _ => 0), zAi 0 24 (fun _ => 0)] 40 800 69) →
      ∀ (m s : Nat) (Th : Nat → Nat → Int32), a * b - s < m → s ≤ a * b → (∀ u t, u < a * b → t < a * b → (u < x ∨ u = x ∧ t < s) → Th u t = nI (gth kd a b u t)) → Z X [some (zr 1 0), some (zr 2 0), some (zi (nI most)), some (zi (nI x)), some (zi (nI s))] [] [zH, zO 11 [zr 2 0, zi (nI most), zi (allB (a * b)), zr 3 0, zr 4 0, zr 5 0, zr 6 0, zi 0, zi (-1), zi 0, zi 0], eGr kd a b, zAi 0 24 (fun _ => 0), zMi 4 0 24 24 Th, zAi 0 24 (fun _ => 0), zAi 0 24 (fun _ => 0)] 40 800 80 := by
    intro x hx kk m
    induction m with
    | zero => intro s Th hm; omega
    | succ m ih =>
      intro s Th hm hs hT
      refine z_iload F dX11_init_80 rfl ?_
      refine z_aload_n F dX11_init_82 rfl ?_
      refine z_getN F zC9 (f := 2) rfl (Nat.le_of_ble_eq_true rfl) q382 rfl dX11_init_83 ?_
      refine z_icmp_geN F (by omega) (by omega) (tgt := 111) dX11_init_86 (by decide) (fun c_86 => ?_) (fun c_86 => ?_)
      · refine z_iincN F 1 dX11_init_111 rfl rfl ?_
        refine z_leq (L' := [_, _, _, _, _]) rfl ?_
        refine z_goto F (tgt := 69) dX11_init_114 (by decide) ?_
        rw [show s = a * b by omega] at hT
        refine z_loc _ ?_ (kk Th (fun u t hu ht q => hT u t hu ht (by omega)))
        exact ⟨rfl, rfl, rfl, rfl, trivial⟩
      · refine z_aload_n F dX11_init_89 rfl ?_
        refine z_get F zC11 (f := 4) rfl (Nat.le_of_ble_eq_true rfl) q968 rfl dX11_init_90 ?_
        refine z_iload_n F dX11_init_93 rfl ?_
        refine z_aaldMN F rfl (Or.inl rfl) (Nat.le_of_ble_eq_true rfl) (by omega) dX11_init_94 ?_
        refine z_iload F dX11_init_95 rfl ?_
        refine z_aload_n F dX11_init_97 rfl ?_
        refine z_iload_n F dX11_init_98 rfl ?_
        refine z_iload F dX11_init_99 rfl ?_
        refine z_callV F (c_gthen kd a b x s h hx (by omega)) 2 rfl (lw_V q962 q405 q406 q132 q407) (by decide +kernel) ⟨Nat.le_of_ble_eq_true rfl, Nat.le_of_ble_eq_true rfl⟩ ⟨by omega, by omega⟩ [0, 2] 7 ⟨rfl, rfl, rfl, ⟨Or.inl rfl, Or.inr rfl, trivial⟩⟩ (fun h => nomatch h) (Nat.le_of_ble_eq_true rfl) ⟨⟨Or.inr trivial, Or.inr rfl, Or.inl rfl, Or.inr trivial, Or.inr trivial, Or.inr trivial, Or.inr trivial, trivial⟩, rfl, rfl, rfl, Nat.le_of_ble_eq_true rfl⟩ rfl zC9 rfl rfl dX11_init_101 (fun r_101 w_101 hp => ?_) (fun _ _ h => h.elim)
        obtain ⟨rfl, rfl⟩ := hp
        refine z_weq (w' := [zH, zO _ [zr _ _, zi _, zi _, zr _ _, zr _ _, zr _ _, zr _ _, zi _, zi _, zi _, zi _], zO _ [zi _, zi _, zi _], zAi 0 24 _, zMi 4 0 24 24 _, zAi 0 24 _, zAi 0 24 _]) rfl ?_
        refine z_seq (S' := zi _ :: _) rfl ?_
        refine z_iastMN F rfl (by omega) (Nat.le_of_ble_eq_true rfl) (by omega) dX11_init_104 ?_
        refine z_weq (w' := [_, _, _, _, _, _, _]) rfl ?_
        refine z_iincN F 1 dX11_init_105 rfl rfl ?_
        refine z_leq (L' := [_, _, _, _, _]) rfl ?_
        refine z_goto F (tgt := 80) dX11_init_108 (by decide) ?_
        refine ih (s + 1) _ (by omega) (by omega) (fun u t hu ht q => ?_)
        rw [zup2_pq]
        by_cases e : u = x ∧ t = s
        · rw [if_pos e, e.1, e.2]
        · rw [if_neg e]; exact hT u t hu ht (by omega)
  have rows : ∀ (m x : Nat) (Th : Nat → Nat → Int32), a * b - x < m → x ≤ a * b → (∀ u t, u < a * b → t < a * b → u < x → Th u t = nI (gth kd a b u t)) → Z X [some (zr 1 0), some (zr 2 0), some (zi (nI most)), some (zi (nI x)), none] [] [zH, zO 11 [zr 2 0, zi (nI most), zi (allB (a * b)), zr 3 0, zr 4 0, zr 5 0, zr 6 0, zi 0, zi (-1), zi 0, zi 0], eGr kd a b, zAi 0 24 (fun _ => 0), zMi 4 0 24 24 Th, zAi 0 24 (fun _ => 0), zAi 0 24 (fun _ => 0)] 40 800 69 := by
    intro m
    induction m with
    | zero => intro x Th hm; omega
    | succ m ih =>
      intro x Th hm hx hT
      refine z_iload_n F dX11_init_69 rfl ?_
      refine z_aload_n F dX11_init_70 rfl ?_
      refine z_getN F zC9 (f := 2) rfl (Nat.le_of_ble_eq_true rfl) q382 rfl dX11_init_71 ?_
      refine z_icmp_geN F (by omega) (by omega) (tgt := 117) dX11_init_74 (by decide) (fun c_74 => ?_) (fun c_74 => ?_)
      · refine z_iconst F (nI 1) dX11_init_117 rfl ?_
        refine z_istore_n F dX11_init_118 (Nat.le_of_ble_eq_true rfl) ?_
        refine z_leq (L' := [_, _, _, _, _]) rfl ?_
        have u1 := us Th (fun u t hu ht => hT u t hu ht (by omega)) (a * b + 1) 1 (by omega) (by omega) (by omega)
        exact u1
      · refine z_iconst F (nI 0) dX11_init_77 rfl ?_
        refine z_istore F dX11_init_78 (Nat.le_of_ble_eq_true rfl) ?_
        refine z_leq (L' := [_, _, _, _, _]) rfl ?_
        exact row x (by omega) (fun Th2 q => ih (x + 1) Th2 (by omega) (by omega) q) (a * b + 1) 0 Th (by omega) (by omega) (fun u t hu ht q => hT u t hu ht (by omega))
  refine z_aload_n F dX11_init_0 rfl ?_
  refine z_objInit F q960 q149 q150 dX11_init_1 (Nat.le_of_ble_eq_true rfl) rfl (Nat.le_of_ble_eq_true rfl) ?_
  refine z_aload_n F dX11_init_4 rfl ?_
  refine z_bipush F (nI 24) dX11_init_5 rfl ?_
  refine z_newaI F 24 3 q174 (nI_pos (by omega)) (zcl_n (by omega)) (by omega) rfl (Nat.le_of_ble_eq_true rfl) ⟨trivial, rfl, rfl, trivial⟩ rfl rfl ⟨by omega, by omega⟩ dX11_init_7 ?_
  refine z_weq (w' := [_, _, _, _]) rfl ?_
  refine z_putF F zC11 (f := 3) rfl (Nat.le_of_ble_eq_true rfl) q967 rfl hin rfl (fun _ => rfl) (fun _ => rfl) (Nat.le_of_ble_eq_true rfl) dX11_init_9 ?_
  refine z_weq (w' := [_, zO _ [_, _, _, _, _, _, _, _, _, _, _], _, _]) rfl ?_
  refine z_aload_n F dX11_init_12 rfl ?_
  refine z_bipush F (nI 24) dX11_init_13 rfl ?_
  refine z_bipush F (nI 24) dX11_init_15 rfl ?_
  refine z_multiI F 24 24 4 q961 q182 q174 (nI_pos (by omega)) (zcl_n (by omega)) (nI_pos (by omega)) (zcl_n (by omega)) (⟨by omega, by omega⟩) rfl (Nat.le_of_ble_eq_true rfl) ⟨trivial, rfl, rfl, trivial, trivial⟩ rfl rfl ⟨by omega, by omega⟩ dX11_init_17 ?_
  refine z_weq (w' := [_, _, _, _, _]) rfl ?_
  refine z_putF F zC11 (f := 4) rfl (Nat.le_of_ble_eq_true rfl) q968 rfl hin rfl (fun _ => rfl) (fun _ => rfl) (Nat.le_of_ble_eq_true rfl) dX11_init_21 ?_
  refine z_weq (w' := [_, zO _ [_, _, _, _, _, _, _, _, _, _, _], _, _, _]) rfl ?_
  refine z_aload_n F dX11_init_24 rfl ?_
  refine z_bipush F (nI 24) dX11_init_25 rfl ?_
  refine z_newaI F 24 5 q174 (nI_pos (by omega)) (zcl_n (by omega)) (by omega) rfl (Nat.le_of_ble_eq_true rfl) ⟨trivial, rfl, rfl, trivial, trivial, trivial⟩ rfl rfl ⟨by omega, by omega⟩ dX11_init_27 ?_
  refine z_weq (w' := [_, _, _, _, _, _]) rfl ?_
  refine z_putF F zC11 (f := 5) rfl (Nat.le_of_ble_eq_true rfl) q969 rfl hin rfl (fun _ => rfl) (fun _ => rfl) (Nat.le_of_ble_eq_true rfl) dX11_init_29 ?_
  refine z_weq (w' := [_, zO _ [_, _, _, _, _, _, _, _, _, _, _], _, _, _, _]) rfl ?_
  refine z_aload_n F dX11_init_32 rfl ?_
  refine z_bipush F (nI 24) dX11_init_33 rfl ?_
  refine z_newaI F 24 6 q174 (nI_pos (by omega)) (zcl_n (by omega)) (by omega) rfl (Nat.le_of_ble_eq_true rfl) ⟨trivial, rfl, rfl, trivial, trivial, trivial, trivial⟩ rfl rfl ⟨by omega, by omega⟩ dX11_init_35 ?_
  refine z_weq (w' := [_, _, _, _, _, _, _]) rfl ?_
  refine z_putF F zC11 (f := 6) rfl (Nat.le_of_ble_eq_true rfl) q970 rfl hin rfl (fun _ => rfl) (fun _ => rfl) (Nat.le_of_ble_eq_true rfl) dX11_init_37 ?_
  refine z_weq (w' := [_, zO _ [_, _, _, _, _, _, _, _, _, _, _], _, _, _, _, _]) rfl ?_
  refine z_aload_n F dX11_init_40 rfl ?_
  refine z_iconst F (-1) dX11_init_41 rfl ?_
  refine z_put F zC11 (f := 8) rfl (Nat.le_of_ble_eq_true rfl) q972 rfl (fun _ => rfl) (fun _ => rfl) (Nat.le_of_ble_eq_true rfl) dX11_init_42 ?_
  refine z_weq (w' := [_, zO _ [_, _, _, _, _, _, _, _, _, _, _], _, _, _, _, _]) rfl ?_
  refine z_aload_n F dX11_init_45 rfl ?_
  refine z_aload_n F dX11_init_46 rfl ?_
  refine z_putF F zC11 (f := 0) rfl (Nat.le_of_ble_eq_true rfl) q964 rfl hin rfl (fun _ => rfl) (fun _ => rfl) (Nat.le_of_ble_eq_true rfl) dX11_init_47 ?_
  refine z_weq (w' := [_, zO _ [_, _, _, _, _, _, _, _, _, _, _], _, _, _, _, _]) rfl ?_
  refine z_aload_n F dX11_init_50 rfl ?_
  refine z_iload_n F dX11_init_51 rfl ?_
  refine z_putF F zC11 (f := 1) rfl (Nat.le_of_ble_eq_true rfl) q965 rfl hin rfl (fun _ => rfl) (fun _ => rfl) (Nat.le_of_ble_eq_true rfl) dX11_init_52 ?_
  refine z_weq (w' := [_, zO _ [_, _, _, _, _, _, _, _, _, _, _], _, _, _, _, _]) rfl ?_
  refine z_aload_n F dX11_init_55 rfl ?_
  refine z_iconst F (nI 1) dX11_init_56 rfl ?_
  refine z_aload_n F dX11_init_57 rfl ?_
  refine z_getN F zC9 (f := 2) rfl (Nat.le_of_ble_eq_true rfl) q382 rfl dX11_init_58 ?_
  refine z_ishl F dX11_init_61 ?_
  refine z_iconst F (nI 1) dX11_init_62 rfl ?_
  refine z_isub F dX11_init_63 ?_
  refine z_putF F zC11 (f := 2) rfl (Nat.le_of_ble_eq_true rfl) q966 rfl hin rfl (fun _ => rfl) (fun _ => rfl) (Nat.le_of_ble_eq_true rfl) dX11_init_64 ?_
  refine z_weq (w' := [_, zO _ [_, _, _, _, _, _, _, _, _, _, _], _, _, _, _, _]) rfl ?_
  refine z_iconst F (nI 0) dX11_init_67 rfl ?_
  refine z_istore_n F dX11_init_68 (Nat.le_of_ble_eq_true rfl) ?_
  refine z_leq (L' := [_, _, _, _, _]) rfl ?_
  refine z_widen (k' := 40) (n' := 800) (by omega) (by omega) ?_
  exact rows (a * b + 1) 0 _ (by omega) (by omega) (fun u t hu ht q => absurd q (by omega))
theorem c_pseek (P : zPt) (t : Nat) (fp : Int32) (kd a b dg : Nat) (h : grok kd a b) (hd1 : 1 ≤ dg) (hd8 : dg ≤ 8) : zCtr yX1_seek cX1_seek 5 (some .int) 32 45 850 [zr 1 0, zi (nI kd), zi (nI a), zi (nI b), zi (nI dg)] (xH P t fp) (fun r w => r = some (zi (skR kd a b dg)) ∧ w = xH P t fp) zNx := by
  refine z_start (by decide) [some (zr 1 0), some (zi (nI kd)), some (zi (nI a)), some (zi (nI b)), some (zi (nI dg))] rfl (fun _ => Nat.le_of_ble_eq_true rfl) (fun _ => rfl) (fun X F E hno hin => ?_)
  refine z_iload_n F dX1_seek_0 rfl ?_
  refine z_iload_n F dX1_seek_1 rfl ?_
  refine z_iload_n F dX1_seek_2 rfl ?_
  refine z_callS F (c_gcan (nI kd) (nI a) (nI b)) 3 rfl (lw_S q369 q370 q132 q371) (by decide +kernel) ⟨Nat.le_of_ble_eq_true rfl, Nat.le_of_ble_eq_true rfl⟩ ⟨by omega, by omega⟩ [0] 22 ⟨rfl, rfl, rfl, ⟨Or.inl rfl, trivial⟩⟩ (fun h => nomatch h) (Nat.le_of_ble_eq_true rfl) ⟨⟨Or.inr (by first | exact ⟨rfl, pR_B _ (by decide)⟩ | exact ⟨rfl, uR_B (by decide) (by decide)⟩), Or.inr rfl, Or.inr trivial, Or.inr trivial, Or.inr trivial, Or.inr trivial, Or.inr trivial, Or.inr trivial, Or.inr trivial, Or.inr trivial, Or.inr trivial, Or.inr trivial, Or.inr trivial, Or.inr trivial, Or.inr trivial, Or.inr trivial, Or.inr trivial, Or.inr trivial, Or.inr trivial, Or.inr trivial, Or.inr trivial, Or.inr trivial, trivial⟩, rfl, rfl, rfl, Nat.le_of_ble_eq_true rfl⟩ rfl rfl dX1_seek_3 (fun r_3 w_3 hp => ?_) (fun _ _ h => h.elim)
  obtain ⟨rfl, rfl⟩ := hp
  refine z_weq (w' := [zPl _ _, zO _ [zr _ _, zr _ _, zr _ _, zr _ _, zr _ _, zi _, zi _, zr _ _, zr _ _], zH, zH, zH, zH, zH, zH, zH, zH, zH, zH, zH, zH, zH, zH, zH, zH, zH, zH, zH, zH]) rfl ?_
  refine z_seq (S' := zi _ :: _) rfl ?_
  refine z_if_eqB F (tgt := 24) dX1_seek_6 (by decide) (fun c_6 => ?_) (fun c_6 => ?_)
  · rw [grB_n h] at c_6; cases c_6
  · refine z_iload F dX1_seek_9 rfl ?_
    refine z_iconst F (nI 1) dX1_seek_11 rfl ?_
    refine z_bipush F (nI 8) dX1_seek_12 rfl ?_
    refine z_callS F (c_in (nI dg) (nI 1) (nI 8)) 3 rfl (lw_S q349 q350 q109 q351) (by decide +kernel) ⟨Nat.le_of_ble_eq_true rfl, Nat.le_of_ble_eq_true rfl⟩ ⟨by omega, by omega⟩ [0] 22 ⟨rfl, rfl, rfl, ⟨Or.inl rfl, trivial⟩⟩ (fun h => nomatch h) (Nat.le_of_ble_eq_true rfl) ⟨⟨Or.inr (by first | exact ⟨rfl, pR_B _ (by decide)⟩ | exact ⟨rfl, uR_B (by decide) (by decide)⟩), Or.inr rfl, Or.inr trivial, Or.inr trivial, Or.inr trivial, Or.inr trivial, Or.inr trivial, Or.inr trivial, Or.inr trivial, Or.inr trivial, Or.inr trivial, Or.inr trivial, Or.inr trivial, Or.inr trivial, Or.inr trivial, Or.inr trivial, Or.inr trivial, Or.inr trivial, Or.inr trivial, Or.inr trivial, Or.inr trivial, Or.inr trivial, trivial⟩, rfl, rfl, rfl, Nat.le_of_ble_eq_true rfl⟩ rfl rfl dX1_seek_14 (fun r_14 w_14 hp => ?_) (fun _ _ h => h.elim)
    obtain ⟨rfl, rfl⟩ := hp
    refine z_weq (w' := [zPl _ _, zO _ [zr _ _, zr _ _, zr _ _, zr _ _, zr _ _, zi _, zi _, zr _ _, zr _ _], zH, zH, zH, zH, zH, zH, zH, zH, zH, zH, zH, zH, zH, zH, zH, zH, zH, zH, zH, zH]) rfl ?_
    refine z_seq (S' := zi _ :: _) rfl ?_
    refine z_if_eqB F (tgt := 24) dX1_seek_17 (by decide) (fun c_17 => ?_) (fun c_17 => ?_)
    · rw [inB_nn hd1 hd8 (by omega)] at c_17; cases c_17
    · refine z_iconstB F true dX1_seek_20 rfl ?_
      refine z_goto F (tgt := 25) dX1_seek_21 (by decide) ?_
      refine z_callS F (c_rgt true) 1 rfl (lw_S q538 q539 q109 q540) (by decide +kernel) ⟨Nat.le_of_ble_eq_true rfl, Nat.le_of_ble_eq_true rfl⟩ ⟨by omega, by omega⟩ [0] 22 ⟨rfl, rfl, rfl, ⟨Or.inl rfl, trivial⟩⟩ (fun h => nomatch h) (Nat.le_of_ble_eq_true rfl) ⟨⟨Or.inr (by first | exact ⟨rfl, pR_B _ (by decide)⟩ | exact ⟨rfl, uR_B (by decide) (by decide)⟩), Or.inr rfl, Or.inr trivial, Or.inr trivial, Or.inr trivial, Or.inr trivial, Or.inr trivial, Or.inr trivial, Or.inr trivial, Or.inr trivial, Or.inr trivial, Or.inr trivial, Or.inr trivial, Or.inr trivial, Or.inr trivial, Or.inr trivial, Or.inr trivial, Or.inr trivial, Or.inr trivial, Or.inr trivial, Or.inr trivial, Or.inr trivial, trivial⟩, rfl, rfl, rfl, Nat.le_of_ble_eq_true rfl⟩ rfl rfl dX1_seek_25 (fun r_25 w_25 hp => ?_) (fun E_ w_ hx => by obtain ⟨-, hb, -⟩ := hx; cases hb)
      obtain ⟨rfl, -, rfl⟩ := hp
      refine z_weq (w' := [zPl _ _, zO _ [zr _ _, zr _ _, zr _ _, zr _ _, zr _ _, zi _, zi _, zr _ _, zr _ _], zH, zH, zH, zH, zH, zH, zH, zH, zH, zH, zH, zH, zH, zH, zH, zH, zH, zH, zH, zH]) rfl ?_
      refine z_seq (S' := []) rfl ?_
      refine z_new F 22 [zn, zi 0, zi 0, zn, zn, zn, zn, zi 0, zi 0, zi 0, zi 0] zC11 q955 q956 q134 (fun _ j hj => by match j, hj with | 0, _ => rfl | 1, _ => rfl | 2, _ => rfl | 3, _ => rfl | 4, _ => rfl | 5, _ => rfl | 6, _ => rfl | 7, _ => rfl | 8, _ => rfl | 9, _ => rfl | 10, _ => rfl) rfl (Nat.le_of_ble_eq_true rfl) (Nat.le_of_ble_eq_true rfl) ⟨(by first | exact pR_N _ (Nat.le_of_ble_eq_true rfl) | exact uR_N (Nat.le_of_ble_eq_true rfl) (Nat.le_of_ble_eq_true rfl)), rfl, trivial, trivial, trivial, trivial, trivial, trivial, trivial, trivial, trivial, trivial, trivial, trivial, trivial, trivial, trivial, trivial, trivial, trivial, trivial, trivial, trivial⟩ rfl rfl ⟨by omega, by omega⟩ dX1_seek_28 ?_
      refine z_weq (w' := [_, _, _, _, _, _, _, _, _, _, _, _, _, _, _, _, _, _, _, _, _, _, _]) rfl ?_
      refine z_dup F dX1_seek_31 rfl ?_
      refine z_new F 23 [zi 0, zi 0, zi 0] zC9 q373 q374 q132 (fun _ j hj => by match j, hj with | 0, _ => rfl | 1, _ => rfl | 2, _ => rfl) rfl (Nat.le_of_ble_eq_true rfl) (Nat.le_of_ble_eq_true rfl) ⟨(by first | exact pR_N _ (Nat.le_of_ble_eq_true rfl) | exact uR_N (Nat.le_of_ble_eq_true rfl) (Nat.le_of_ble_eq_true rfl)), rfl, trivial, trivial, trivial, trivial, trivial, trivial, trivial, trivial, trivial, trivial, trivial, trivial, trivial, trivial, trivial, trivial, trivial, trivial, trivial, trivial, rfl, trivial⟩ rfl rfl ⟨by omega, by omega⟩ dX1_seek_32 ?_
      refine z_weq (w' := [_, _, _, _, _, _, _, _, _, _, _, _, _, _, _, _, _, _, _, _, _, _, _, _]) rfl ?_
      refine z_dup F dX1_seek_35 rfl ?_
      refine z_iload_n F dX1_seek_36 rfl ?_
      refine z_iload_n F dX1_seek_37 rfl ?_
      refine z_iload_n F dX1_seek_38 rfl ?_
      refine z_callI F (c_ginit kd a b) 3 rfl (lw_meth q377) q132 q375 q376 rfl (by decide +kernel) ⟨Nat.le_of_ble_eq_true rfl, Nat.le_of_ble_eq_true rfl⟩ ⟨by omega, by omega⟩ [0, 23] 24 ⟨rfl, rfl, rfl, ⟨Or.inl rfl, Or.inr rfl, trivial⟩⟩ (fun h => nomatch h) (Nat.le_of_ble_eq_true rfl) ⟨⟨Or.inr (by first | exact ⟨rfl, pR_B _ (by decide)⟩ | exact ⟨rfl, uR_B (by decide) (by decide)⟩), Or.inr rfl, Or.inr trivial, Or.inr trivial, Or.inr trivial, Or.inr trivial, Or.inr trivial, Or.inr trivial, Or.inr trivial, Or.inr trivial, Or.inr trivial, Or.inr trivial, Or.inr trivial, Or.inr trivial, Or.inr trivial, Or.inr trivial, Or.inr trivial, Or.inr trivial, Or.inr trivial, Or.inr trivial, Or.inr trivial, Or.inr trivial, Or.inr rfl, Or.inl rfl, trivial⟩, rfl, rfl, rfl, Nat.le_of_ble_eq_true rfl⟩ rfl rfl dX1_seek_39 (fun r_39 w_39 hp => ?_) (fun _ _ h => h.elim)
      obtain ⟨rfl, rfl⟩ := hp
      refine z_weq (w' := [zPl _ _, zO _ [zr _ _, zr _ _, zr _ _, zr _ _, zr _ _, zi _, zi _, zr _ _, zr _ _], zH, zH, zH, zH, zH, zH, zH, zH, zH, zH, zH, zH, zH, zH, zH, zH, zH, zH, zH, zH, zO _ [zn, zi _, zi _, zn, zn, zn, zn, zi _, zi _, zi _, zi _], zO _ [zi _, zi _, zi _]]) rfl ?_
      refine z_seq (S' := [_, _, _]) rfl ?_
      refine z_iload F dX1_seek_42 rfl ?_
      refine z_callI F (c_skInit kd a b dg h) 2 rfl (lw_meth q959) q134 q957 q958 rfl (by decide +kernel) ⟨Nat.le_of_ble_eq_true rfl, Nat.le_of_ble_eq_true rfl⟩ ⟨by omega, by omega⟩ [0, 22, 23] 24 ⟨rfl, rfl, rfl, ⟨Or.inl rfl, Or.inr rfl, Or.inr rfl, trivial⟩⟩ (fun h => nomatch h) (Nat.le_of_ble_eq_true rfl) ⟨⟨Or.inr (by first | exact ⟨rfl, pR_B _ (by decide)⟩ | exact ⟨rfl, uR_B (by decide) (by decide)⟩), Or.inr rfl, Or.inr trivial, Or.inr trivial, Or.inr trivial, Or.inr trivial, Or.inr trivial, Or.inr trivial, Or.inr trivial, Or.inr trivial, Or.inr trivial, Or.inr trivial, Or.inr trivial, Or.inr trivial, Or.inr trivial, Or.inr trivial, Or.inr trivial, Or.inr trivial, Or.inr trivial, Or.inr trivial, Or.inr trivial, Or.inr trivial, Or.inl rfl, Or.inl rfl, trivial⟩, rfl, rfl, rfl, Nat.le_of_ble_eq_true rfl⟩ rfl rfl dX1_seek_44 (fun r_44 w_44 hp => ?_) (fun _ _ h => h.elim)
      obtain ⟨rfl, Th, hT, rfl⟩ := hp
      refine z_weq (w' := [zPl _ _, zO _ [zr _ _, zr _ _, zr _ _, zr _ _, zr _ _, zi _, zi _, zr _ _, zr _ _], zH, zH, zH, zH, zH, zH, zH, zH, zH, zH, zH, zH, zH, zH, zH, zH, zH, zH, zH, zH, zO _ [zr _ _, zi _, zi _, zr _ _, zr _ _, zr _ _, zr _ _, zi _, zi _, zi _, zi _], zO _ [zi _, zi _, zi _], zAi 0 24 _, zMi 4 0 24 24 _, zAi 0 24 _, zAi 0 24 _]) rfl ?_
      refine z_seq (S' := [_]) rfl ?_
      refine z_callV F (c_skRun kd a b dg Th _ _ 0 0 h (by omega) hT) 0 rfl (lw_V q998 q999 q1000 q134 q1001) (by decide +kernel) ⟨Nat.le_of_ble_eq_true rfl, Nat.le_of_ble_eq_true rfl⟩ ⟨by omega, by omega⟩ [0, 22, 23, 24, 25, 26, 27] 28 ⟨rfl, rfl, rfl, ⟨Or.inl rfl, Or.inr rfl, Or.inl rfl, Or.inr rfl, Or.inr rfl, Or.inr rfl, Or.inr rfl, trivial⟩⟩ (fun h => nomatch h) (Nat.le_of_ble_eq_true rfl) ⟨⟨Or.inr (by first | exact ⟨rfl, pR_B _ (by decide)⟩ | exact ⟨rfl, uR_B (by decide) (by decide)⟩), Or.inr rfl, Or.inr trivial, Or.inr trivial, Or.inr trivial, Or.inr trivial, Or.inr trivial, Or.inr trivial, Or.inr trivial, Or.inr trivial, Or.inr trivial, Or.inr trivial, Or.inr trivial, Or.inr trivial, Or.inr trivial, Or.inr trivial, Or.inr trivial, Or.inr trivial, Or.inr trivial, Or.inr trivial, Or.inr trivial, Or.inr trivial, Or.inl rfl, Or.inr rfl, Or.inl rfl, Or.inl rfl, Or.inl rfl, Or.inl rfl, trivial⟩, rfl, rfl, rfl, Nat.le_of_ble_eq_true rfl⟩ rfl zC11 rfl rfl dX1_seek_47 (fun r_47 w_47 hp => ?_) (fun _ _ h => h.elim)
      obtain ⟨rfl, bm, bf, bs, La, Fa, rfl⟩ := hp
      refine z_weq (w' := [zPl _ _, zO _ [zr _ _, zr _ _, zr _ _, zr _ _, zr _ _, zi _, zi _, zr _ _, zr _ _], zH, zH, zH, zH, zH, zH, zH, zH, zH, zH, zH, zH, zH, zH, zH, zH, zH, zH, zH, zH, zO _ [zr _ _, zi _, zi _, zr _ _, zr _ _, zr _ _, zr _ _, zi _, zi _, zi _, zi _], zO _ [zi _, zi _, zi _], zAi 0 24 _, zMi 4 0 24 24 _, zAi 0 24 _, zAi 0 24 _]) rfl ?_
      refine z_seq (S' := zi _ :: _) rfl ?_
      refine z_take F 22 [zPl _ _, zO _ [zr _ _, zr _ _, zr _ _, zr _ _, zr _ _, zi _, zi _, zr _ _, zr _ _], zH, zH, zH, zH, zH, zH, zH, zH, zH, zH, zH, zH, zH, zH, zH, zH, zH, zH, zH, zH] rfl ?_
      exact z_iret F E rfl dX1_seek_50 (by omega) (by omega) (⟨rfl, rfl⟩)
theorem c_pseek_bad (P : zPt) (t : Nat) (fp : Int32) (k a b dg : Int32) (h : (grB k a b && inB dg (nI 1) (nI 8)) = false) : zCtr yX1_seek cX1_seek 5 (some .int) 32 45 850 [zr 1 0, zi k, zi a, zi b, zi dg] (xH P t fp) (fun r w => False) (fun E w => E = eIAE ∧ True ∧ w = xH P t fp) := by
  refine z_start (by decide) [some (zr 1 0), some (zi k), some (zi a), some (zi b), some (zi dg)] rfl (fun _ => Nat.le_of_ble_eq_true rfl) (fun _ => rfl) (fun X F E hno hin => ?_)
  refine z_iload_n F dX1_seek_0 rfl ?_
  refine z_iload_n F dX1_seek_1 rfl ?_
  refine z_iload_n F dX1_seek_2 rfl ?_
  refine z_callS F (c_gcan k a b) 3 rfl (lw_S q369 q370 q132 q371) (by decide +kernel) ⟨Nat.le_of_ble_eq_true rfl, Nat.le_of_ble_eq_true rfl⟩ ⟨by omega, by omega⟩ [0] 22 ⟨rfl, rfl, rfl, ⟨Or.inl rfl, trivial⟩⟩ (fun h => nomatch h) (Nat.le_of_ble_eq_true rfl) ⟨⟨Or.inr (by first | exact ⟨rfl, pR_B _ (by decide)⟩ | exact ⟨rfl, uR_B (by decide) (by decide)⟩), Or.inr rfl, Or.inr trivial, Or.inr trivial, Or.inr trivial, Or.inr trivial, Or.inr trivial, Or.inr trivial, Or.inr trivial, Or.inr trivial, Or.inr trivial, Or.inr trivial, Or.inr trivial, Or.inr trivial, Or.inr trivial, Or.inr trivial, Or.inr trivial, Or.inr trivial, Or.inr trivial, Or.inr trivial, Or.inr trivial, Or.inr trivial, trivial⟩, rfl, rfl, rfl, Nat.le_of_ble_eq_true rfl⟩ rfl rfl dX1_seek_3 (fun r_3 w_3 hp => ?_) (fun _ _ h => h.elim)
  obtain ⟨rfl, rfl⟩ := hp
  refine z_weq (w' := [zPl _ _, zO _ [zr _ _, zr _ _, zr _ _, zr _ _, zr _ _, zi _, zi _, zr _ _, zr _ _], zH, zH, zH, zH, zH, zH, zH, zH, zH, zH, zH, zH, zH, zH, zH, zH, zH, zH, zH, zH]) rfl ?_
  refine z_seq (S' := zi _ :: _) rfl ?_
  refine z_if_eqB F (tgt := 24) dX1_seek_6 (by decide) (fun c_6 => ?_) (fun c_6 => ?_)
  · refine z_iconstB F false dX1_seek_24 rfl ?_
    refine z_callS F (c_rgt false) 1 rfl (lw_S q538 q539 q109 q540) (by decide +kernel) ⟨Nat.le_of_ble_eq_true rfl, Nat.le_of_ble_eq_true rfl⟩ ⟨by omega, by omega⟩ [0] 22 ⟨rfl, rfl, rfl, ⟨Or.inl rfl, trivial⟩⟩ (fun h => nomatch h) (Nat.le_of_ble_eq_true rfl) ⟨⟨Or.inr (by first | exact ⟨rfl, pR_B _ (by decide)⟩ | exact ⟨rfl, uR_B (by decide) (by decide)⟩), Or.inr rfl, Or.inr trivial, Or.inr trivial, Or.inr trivial, Or.inr trivial, Or.inr trivial, Or.inr trivial, Or.inr trivial, Or.inr trivial, Or.inr trivial, Or.inr trivial, Or.inr trivial, Or.inr trivial, Or.inr trivial, Or.inr trivial, Or.inr trivial, Or.inr trivial, Or.inr trivial, Or.inr trivial, Or.inr trivial, Or.inr trivial, trivial⟩, rfl, rfl, rfl, Nat.le_of_ble_eq_true rfl⟩ rfl rfl dX1_seek_25 (fun r_25 w_25 hp => ?_) (fun E_ w_ hx => by obtain ⟨rfl, -, rfl⟩ := hx; exact zx_out F E hno (by omega) (by omega) ⟨rfl, trivial, rfl⟩)
    exact nomatch hp.2.1
  · refine z_iload F dX1_seek_9 rfl ?_
    refine z_iconst F (nI 1) dX1_seek_11 rfl ?_
    refine z_bipush F (nI 8) dX1_seek_12 rfl ?_
    refine z_callS F (c_in dg (nI 1) (nI 8)) 3 rfl (lw_S q349 q350 q109 q351) (by decide +kernel) ⟨Nat.le_of_ble_eq_true rfl, Nat.le_of_ble_eq_true rfl⟩ ⟨by omega, by omega⟩ [0] 22 ⟨rfl, rfl, rfl, ⟨Or.inl rfl, trivial⟩⟩ (fun h => nomatch h) (Nat.le_of_ble_eq_true rfl) ⟨⟨Or.inr (by first | exact ⟨rfl, pR_B _ (by decide)⟩ | exact ⟨rfl, uR_B (by decide) (by decide)⟩), Or.inr rfl, Or.inr trivial, Or.inr trivial, Or.inr trivial, Or.inr trivial, Or.inr trivial, Or.inr trivial, Or.inr trivial, Or.inr trivial, Or.inr trivial, Or.inr trivial, Or.inr trivial, Or.inr trivial, Or.inr trivial, Or.inr trivial, Or.inr trivial, Or.inr trivial, Or.inr trivial, Or.inr trivial, Or.inr trivial, Or.inr trivial, trivial⟩, rfl, rfl, rfl, Nat.le_of_ble_eq_true rfl⟩ rfl rfl dX1_seek_14 (fun r_14 w_14 hp => ?_) (fun _ _ h => h.elim)
    obtain ⟨rfl, rfl⟩ := hp
    refine z_weq (w' := [zPl _ _, zO _ [zr _ _, zr _ _, zr _ _, zr _ _, zr _ _, zi _, zi _, zr _ _, zr _ _], zH, zH, zH, zH, zH, zH, zH, zH, zH, zH, zH, zH, zH, zH, zH, zH, zH, zH, zH, zH]) rfl ?_
    refine z_seq (S' := zi _ :: _) rfl ?_
    refine z_if_eqB F (tgt := 24) dX1_seek_17 (by decide) (fun c_17 => ?_) (fun c_17 => ?_)
    · refine z_iconstB F false dX1_seek_24 rfl ?_
      refine z_callS F (c_rgt false) 1 rfl (lw_S q538 q539 q109 q540) (by decide +kernel) ⟨Nat.le_of_ble_eq_true rfl, Nat.le_of_ble_eq_true rfl⟩ ⟨by omega, by omega⟩ [0] 22 ⟨rfl, rfl, rfl, ⟨Or.inl rfl, trivial⟩⟩ (fun h => nomatch h) (Nat.le_of_ble_eq_true rfl) ⟨⟨Or.inr (by first | exact ⟨rfl, pR_B _ (by decide)⟩ | exact ⟨rfl, uR_B (by decide) (by decide)⟩), Or.inr rfl, Or.inr trivial, Or.inr trivial, Or.inr trivial, Or.inr trivial, Or.inr trivial, Or.inr trivial, Or.inr trivial, Or.inr trivial, Or.inr trivial, Or.inr trivial, Or.inr trivial, Or.inr trivial, Or.inr trivial, Or.inr trivial, Or.inr trivial, Or.inr trivial, Or.inr trivial, Or.inr trivial, Or.inr trivial, Or.inr trivial, trivial⟩, rfl, rfl, rfl, Nat.le_of_ble_eq_true rfl⟩ rfl rfl dX1_seek_25 (fun r_25 w_25 hp => ?_) (fun E_ w_ hx => by obtain ⟨rfl, -, rfl⟩ := hx; exact zx_out F E hno (by omega) (by omega) ⟨rfl, trivial, rfl⟩)
      exact nomatch hp.2.1
    · rw [c_6, c_17] at h; cases h
end C9c
