/-! heavy: WiredNets' operation -/
section C9ya
abbrev hyT : Type := Option (Nat × Nat)
def hyB (n : Nat) (f : Nat → Int32) (st : hyT) (v : Nat) : Bool := match st with
  | none => true
  | some p => decide (ldN n f p.1 p.2 < v)
def hyR (n : Nat) (f : Nat → Int32) (a : Nat) (st : hyT) : Nat → hyT
  | 0 => st
  | b + 1 => if bt (f a) b = true ∧ hyB n f (hyR n f a st b) (ldN n f a b) = true then some (a, b) else hyR n f a st b
def hyA (n : Nat) (f : Nat → Int32) : Nat → hyT
  | 0 => none
  | a + 1 => hyR n f a (hyA n f a) n
def hyI (st : hyT) : Int32 := match st with
  | none => -1
  | some p => nI (32 * p.1 + p.2)
def hyL (n : Nat) (f : Nat → Int32) (st : hyT) : Nat := match st with
  | none => 0
  | some p => ldN n f p.1 p.2
abbrev hyQ (n : Nat) (st : hyT) : Prop := ∀ p, st = some p → p.1 < n ∧ p.2 < n
theorem hyR_q {n a : Nat} {f : Nat → Int32} {st : hyT} (h : hyQ n st) (ha : a < n) : ∀ b, b ≤ n → hyQ n (hyR n f a st b)
  | 0, _ => h
  | b + 1, hb => fun p e => by
    have ih := hyR_q (f := f) h ha b (by omega)
    rw [hyR] at e
    split at e
    · cases e; exact ⟨ha, by show b < n; omega⟩
    · exact ih p e
theorem hyA_q {n : Nat} {f : Nat → Int32} : ∀ a, a ≤ n → hyQ n (hyA n f a)
  | 0, _ => fun p e => by cases e
  | a + 1, ha => hyR_q (hyA_q a (by omega)) (by omega) n (Nat.le_refl _)
noncomputable def ptR (n : Nat) (f : Nat → Int32) (a s : Nat) : Nat → Nat
  | 0 => s
  | b + 1 => if bt (f a) b = true then max (ptR n f a s b) (gN (hvG n f a b) n) else ptR n f a s b
noncomputable def ptA (n : Nat) (f : Nat → Int32) : Nat → Nat
  | 0 => 0
  | a + 1 => ptR n f a (ptA n f a) n
theorem ptR_le {n a s : Nat} {f : Nat → Int32} (h : s ≤ n) : ∀ b, ptR n f a s b ≤ n
  | 0 => h
  | b + 1 => by
    have ih := ptR_le (a := a) (f := f) h b
    have := gN_k (g := hvG n f a b) n
    rw [ptR]
    split
    · exact Nat.max_le.mpr ⟨ih, this⟩
    · exact ih
theorem ptA_le {n : Nat} {f : Nat → Int32} : ∀ a, ptA n f a ≤ n
  | 0 => Nat.zero_le _
  | a + 1 => ptR_le (ptA_le a) n
theorem hy_some {n : Nat} {st : hyT} (h : hyQ n st) (hne : ¬ hyI st = -1) : ∃ p q, st = some (p, q) ∧ p < n ∧ q < n := by
  rcases st with _ | ⟨p, q⟩
  · exact absurd rfl hne
  · exact ⟨p, q, rfl, (h _ rfl).1, (h _ rfl).2⟩
theorem hy_none {n : Nat} {st : hyT} (h : hyQ n st) (hn : n ≤ 24) (he : hyI st = -1) : st = none := by
  rcases st with _ | ⟨p, q⟩
  · rfl
  · obtain ⟨a, b⟩ := h _ rfl
    have a : p < n := a
    have b : q < n := b
    exact absurd he (nI_ne (show 32 * p + q < 2 ^ 31 by omega))
abbrev wHv (n : Nat) (d jo tr : Int32) (f : Nat → Int32) (L : Nat → Nat → Int32) : List zE := [zH, eWy 2 4 5 6 7 8 9 jo tr, eNet 3 (nI n) d, zAi 0 24 f, zH, zH, zMi 4 0 24 24 L, zH, zH, zH]
theorem c_wheaviest (n dd : Nat) (f : Nat → Int32) (d jo tr : Int32) (h : nok n dd f) :
    zCtr yX13_heaviest cX13_heaviest 4 (some .int) 2 0 0 [zr 1 0] (wHv n d jo tr f (lall n f n)) (fun r w => r = some (zi (hyI (hyA n f n))) ∧ w = wHv n d jo tr f (lall n f n)) zNx := by
  refine z_start (by decide) [some (zr 1 0), none, none, none] rfl (fun _ => Nat.le_of_ble_eq_true rfl) (fun _ => rfl) (fun X F E hno hin => ?_)
  have hn := h.n24
  have row : ∀ (a : Nat), a < n → (Z X [some (zr 1 0), some (zi (hyI (hyA n f (a + 1)))), some (zi (nI (a + 1))), none] [] (wHv n d jo tr f (lall n f n)) 0 0 4) → ∀ (m b : Nat), n - b < m → b ≤ n → Z X [some (zr 1 0), some (zi (hyI (hyR n f a (hyA n f a) b))), some (zi (nI a)), some (zi (nI b))] [] (wHv n d jo tr f (lall n f n)) 0 0 17 := by
    intro a ha kk m
    induction m with
    | zero => intro b hm; omega
    | succ m ih =>
      intro b hm hb
      have hq := hyR_q (f := f) (hyA_q (n := n) (f := f) a (by omega)) ha b hb
      have hld := ldN_lt (n := n) (f := f) (a := a) (b := b) hn
      have i1 := fun z => ih (b + 1) (by omega) z
      rw [hyR] at i1
      have e1 : lall n f n a b = nI (ldN n f a b) := lall_vs
      rcases hs : hyR n f a (hyA n f a) b with _ | ⟨p, q⟩
      ·
        rw [hs] at i1
        have hy0 : hyB n f none (ldN n f a b) = true := rfl
        show Z X [some (zr 1 0), some (zi (-1)), some (zi (nI a)), some (zi (nI b))] [] (wHv n d jo tr f (lall n f n)) 0 0 17
        refine z_iload_n F dX13_heaviest_17 rfl ?_
        refine z_aload_n F dX13_heaviest_18 rfl ?_
        refine z_get F zC13 (f := 0) rfl (Nat.le_of_ble_eq_true rfl) q1317 rfl dX13_heaviest_19 ?_
        refine z_getN F zC5 (f := 0) rfl (Nat.le_of_ble_eq_true rfl) q239 rfl dX13_heaviest_22 ?_
        refine z_icmp_geN F (by omega) (by omega) (tgt := 82) dX13_heaviest_25 (by decide) (fun c_25 => ?_) (fun c_25 => ?_)
        · refine z_iincN F 1 dX13_heaviest_82 rfl rfl ?_
          refine z_leq (L' := [_, _, _, _]) rfl ?_
          refine z_goto F (tgt := 4) dX13_heaviest_85 (by decide) ?_
          rw [show b = n by omega] at hs
          rw [hyA, hs] at kk
          refine z_loc _ ?_ kk
          exact ⟨rfl, rfl, rfl, trivial⟩
        · refine z_aload_n F dX13_heaviest_28 rfl ?_
          refine z_get F zC13 (f := 0) rfl (Nat.le_of_ble_eq_true rfl) q1317 rfl dX13_heaviest_29 ?_
          refine z_iload_n F dX13_heaviest_32 rfl ?_
          refine z_iload_n F dX13_heaviest_33 rfl ?_
          refine z_callV F (c_has (nI n) d f a b (by omega) (by omega)) 2 rfl (lw_V q1312 q508 q509 q116 q510) (by decide +kernel) ⟨Nat.le_of_ble_eq_true rfl, Nat.le_of_ble_eq_true rfl⟩ ⟨by omega, by omega⟩ [0, 2, 3] 10 ⟨rfl, rfl, rfl, ⟨Or.inl rfl, Or.inr rfl, Or.inr rfl, trivial⟩⟩ (fun h => nomatch h) (Nat.le_of_ble_eq_true rfl) ⟨⟨Or.inr trivial, Or.inr rfl, Or.inl rfl, Or.inl rfl, Or.inr trivial, Or.inr trivial, Or.inr trivial, Or.inr trivial, Or.inr trivial, Or.inr trivial, trivial⟩, rfl, rfl, rfl, Nat.le_of_ble_eq_true rfl⟩ rfl zC5 rfl rfl dX13_heaviest_34 (fun r_34 w_34 hp => ?_) (fun _ _ h => h.elim)
          obtain ⟨rfl, rfl⟩ := hp
          refine z_weq (w' := [zH, zO _ [zr _ _, zi _, zr _ _, zr _ _, zr _ _, zr _ _, zr _ _, zr _ _, zi _], zO _ [zi _, zi _, zr _ _], zAi 0 24 _, zH, zH, zMi 4 0 24 24 _, zH, zH, zH]) rfl ?_
          refine z_seq (S' := zi _ :: _) rfl ?_
          refine z_if_eqB F (tgt := 76) dX13_heaviest_37 (by decide) (fun c_37 => ?_) (fun c_37 => ?_)
          · refine z_iincN F 1 dX13_heaviest_76 rfl rfl ?_
            refine z_leq (L' := [_, _, _, _]) rfl ?_
            refine z_goto F (tgt := 17) dX13_heaviest_79 (by decide) ?_
            have i2 := i1 (by omega)
            rw [if_neg (fun z => by rw [c_37] at z; cases z.1)] at i2
            exact i2
          · refine z_iload_n F dX13_heaviest_40 rfl ?_
            refine z_iconst F (-1) dX13_heaviest_41 rfl ?_
            refine z_icmp_eq F (tgt := 69) dX13_heaviest_42 (by decide) (fun c_42 => ?_) (fun c_42 => ?_)
            · refine z_bipush F (nI 32) dX13_heaviest_69 rfl ?_
              refine z_iload_n F dX13_heaviest_71 rfl ?_
              refine z_imulN F dX13_heaviest_72 ?_
              refine z_iload_n F dX13_heaviest_73 rfl ?_
              refine z_iaddN F dX13_heaviest_74 ?_
              refine z_istore_n F dX13_heaviest_75 (Nat.le_of_ble_eq_true rfl) ?_
              refine z_leq (L' := [_, _, _, _]) rfl ?_
              refine z_iincN F 1 dX13_heaviest_76 rfl rfl ?_
              refine z_leq (L' := [_, _, _, _]) rfl ?_
              refine z_goto F (tgt := 17) dX13_heaviest_79 (by decide) ?_
              have i2 := i1 (by omega)
              rw [if_pos ⟨c_37, hy0⟩] at i2
              exact i2
            · exact absurd rfl c_42
      obtain ⟨hp1, hp2⟩ := hq (p, q) hs
      have hp1 : p < n := hp1
      have hp2 : q < n := hp2
      have hld2 := ldN_lt (n := n) (f := f) (a := p) (b := q) hn
      have e2 : lall n f n p q = nI (ldN n f p q) := lall_vs
      rw [hs] at i1
      have hy1 : hyB n f (some (p, q)) (ldN n f a b) = decide (ldN n f p q < ldN n f a b) := rfl
      show Z X [some (zr 1 0), some (zi (nI (32 * p + q))), some (zi (nI a)), some (zi (nI b))] [] (wHv n d jo tr f (lall n f n)) 0 0 17
      refine z_iload_n F dX13_heaviest_17 rfl ?_
      refine z_aload_n F dX13_heaviest_18 rfl ?_
      refine z_get F zC13 (f := 0) rfl (Nat.le_of_ble_eq_true rfl) q1317 rfl dX13_heaviest_19 ?_
      refine z_getN F zC5 (f := 0) rfl (Nat.le_of_ble_eq_true rfl) q239 rfl dX13_heaviest_22 ?_
      refine z_icmp_geN F (by omega) (by omega) (tgt := 82) dX13_heaviest_25 (by decide) (fun c_25 => ?_) (fun c_25 => ?_)
      · refine z_iincN F 1 dX13_heaviest_82 rfl rfl ?_
        refine z_leq (L' := [_, _, _, _]) rfl ?_
        refine z_goto F (tgt := 4) dX13_heaviest_85 (by decide) ?_
        rw [show b = n by omega] at hs
        rw [hyA, hs] at kk
        refine z_loc _ ?_ kk
        exact ⟨rfl, rfl, rfl, trivial⟩
      · refine z_aload_n F dX13_heaviest_28 rfl ?_
        refine z_get F zC13 (f := 0) rfl (Nat.le_of_ble_eq_true rfl) q1317 rfl dX13_heaviest_29 ?_
        refine z_iload_n F dX13_heaviest_32 rfl ?_
        refine z_iload_n F dX13_heaviest_33 rfl ?_
        refine z_callV F (c_has (nI n) d f a b (by omega) (by omega)) 2 rfl (lw_V q1312 q508 q509 q116 q510) (by decide +kernel) ⟨Nat.le_of_ble_eq_true rfl, Nat.le_of_ble_eq_true rfl⟩ ⟨by omega, by omega⟩ [0, 2, 3] 10 ⟨rfl, rfl, rfl, ⟨Or.inl rfl, Or.inr rfl, Or.inr rfl, trivial⟩⟩ (fun h => nomatch h) (Nat.le_of_ble_eq_true rfl) ⟨⟨Or.inr trivial, Or.inr rfl, Or.inl rfl, Or.inl rfl, Or.inr trivial, Or.inr trivial, Or.inr trivial, Or.inr trivial, Or.inr trivial, Or.inr trivial, trivial⟩, rfl, rfl, rfl, Nat.le_of_ble_eq_true rfl⟩ rfl zC5 rfl rfl dX13_heaviest_34 (fun r_34 w_34 hp => ?_) (fun _ _ h => h.elim)
        obtain ⟨rfl, rfl⟩ := hp
        refine z_weq (w' := [zH, zO _ [zr _ _, zi _, zr _ _, zr _ _, zr _ _, zr _ _, zr _ _, zr _ _, zi _], zO _ [zi _, zi _, zr _ _], zAi 0 24 _, zH, zH, zMi 4 0 24 24 _, zH, zH, zH]) rfl ?_
        refine z_seq (S' := zi _ :: _) rfl ?_
        refine z_if_eqB F (tgt := 76) dX13_heaviest_37 (by decide) (fun c_37 => ?_) (fun c_37 => ?_)
        · refine z_iincN F 1 dX13_heaviest_76 rfl rfl ?_
          refine z_leq (L' := [_, _, _, _]) rfl ?_
          refine z_goto F (tgt := 17) dX13_heaviest_79 (by decide) ?_
          have i2 := i1 (by omega)
          rw [if_neg (fun z => by rw [c_37] at z; cases z.1)] at i2
          exact i2
        · refine z_iload_n F dX13_heaviest_40 rfl ?_
          refine z_iconst F (-1) dX13_heaviest_41 rfl ?_
          refine z_icmp_eq F (tgt := 69) dX13_heaviest_42 (by decide) (fun c_42 => ?_) (fun c_42 => ?_)
          · exact absurd c_42 (nI_ne (by omega))
          · refine z_aload_n F dX13_heaviest_45 rfl ?_
            refine z_get F zC13 (f := 4) rfl (Nat.le_of_ble_eq_true rfl) q1323 rfl dX13_heaviest_46 ?_
            refine z_iload_n F dX13_heaviest_49 rfl ?_
            refine z_aaldMN F rfl (Or.inl rfl) (Nat.le_of_ble_eq_true rfl) (by omega) dX13_heaviest_50 ?_
            refine z_iload_n F dX13_heaviest_51 rfl ?_
            refine z_ialdMN F rfl (by omega) (Nat.le_of_ble_eq_true rfl) (by omega) rfl dX13_heaviest_52 ?_
            refine z_ieq (e1) ?_
            refine z_aload_n F dX13_heaviest_53 rfl ?_
            refine z_get F zC13 (f := 4) rfl (Nat.le_of_ble_eq_true rfl) q1323 rfl dX13_heaviest_54 ?_
            refine z_iload_n F dX13_heaviest_57 rfl ?_
            refine z_iconst F (nI 5) dX13_heaviest_58 rfl ?_
            refine z_ishr F dX13_heaviest_59 ?_
            refine z_ieq (pc_hi (by omega) (by omega)) ?_
            refine z_aaldMN F rfl (Or.inl rfl) (Nat.le_of_ble_eq_true rfl) (by omega) dX13_heaviest_60 ?_
            refine z_iload_n F dX13_heaviest_61 rfl ?_
            refine z_bipush F (nI 31) dX13_heaviest_62 rfl ?_
            refine z_iand F dX13_heaviest_64 ?_
            refine z_ieq (pc_lo (by omega) (by omega)) ?_
            refine z_ialdMN F rfl (by omega) (Nat.le_of_ble_eq_true rfl) (by omega) rfl dX13_heaviest_65 ?_
            refine z_ieq (e2) ?_
            refine z_icmp_leN F (by omega) (by omega) (tgt := 76) dX13_heaviest_66 (by decide) (fun c_66 => ?_) (fun c_66 => ?_)
            · refine z_iincN F 1 dX13_heaviest_76 rfl rfl ?_
              refine z_leq (L' := [_, _, _, _]) rfl ?_
              refine z_goto F (tgt := 17) dX13_heaviest_79 (by decide) ?_
              have i2 := i1 (by omega)
              rw [if_neg (fun z => by have h9 := z.2; rw [hy1, decide_eq_true_eq] at h9; omega)] at i2
              exact i2
            · refine z_bipush F (nI 32) dX13_heaviest_69 rfl ?_
              refine z_iload_n F dX13_heaviest_71 rfl ?_
              refine z_imulN F dX13_heaviest_72 ?_
              refine z_iload_n F dX13_heaviest_73 rfl ?_
              refine z_iaddN F dX13_heaviest_74 ?_
              refine z_istore_n F dX13_heaviest_75 (Nat.le_of_ble_eq_true rfl) ?_
              refine z_leq (L' := [_, _, _, _]) rfl ?_
              refine z_iincN F 1 dX13_heaviest_76 rfl rfl ?_
              refine z_leq (L' := [_, _, _, _]) rfl ?_
              refine z_goto F (tgt := 17) dX13_heaviest_79 (by decide) ?_
              have i2 := i1 (by omega)
              rw [if_pos ⟨c_37, by rw [hy1]; exact decide_eq_true (by omega)⟩] at i2
              exact i2
  have rows : ∀ (m a : Nat), n - a < m → a ≤ n → Z X [some (zr 1 0), some (zi (hyI (hyA n f a))), some (zi (nI a)), none] [] (wHv n d jo tr f (lall n f n)) 0 0 4 := by
    intro m
    induction m with
    | zero => intro a hm; omega
    | succ m ih =>
      intro a hm ha
      refine z_iload_n F dX13_heaviest_4 rfl ?_
      refine z_aload_n F dX13_heaviest_5 rfl ?_
      refine z_get F zC13 (f := 0) rfl (Nat.le_of_ble_eq_true rfl) q1317 rfl dX13_heaviest_6 ?_
      refine z_getN F zC5 (f := 0) rfl (Nat.le_of_ble_eq_true rfl) q239 rfl dX13_heaviest_9 ?_
      refine z_icmp_geN F (by omega) (by omega) (tgt := 88) dX13_heaviest_12 (by decide) (fun c_12 => ?_) (fun c_12 => ?_)
      · refine z_iload_n F dX13_heaviest_88 rfl ?_
        exact z_iret F E rfl dX13_heaviest_89 (by omega) (by omega) (⟨by rw [show a = n by omega], rfl⟩)
      · refine z_iconst F (nI 0) dX13_heaviest_15 rfl ?_
        refine z_istore_n F dX13_heaviest_16 (Nat.le_of_ble_eq_true rfl) ?_
        refine z_leq (L' := [_, _, _, _]) rfl ?_
        exact row a (by omega) (ih (a + 1) (by omega) (by omega)) (n + 1) 0 (by omega) (by omega)
  refine z_iconst F (-1) dX13_heaviest_0 rfl ?_
  refine z_istore_n F dX13_heaviest_1 (Nat.le_of_ble_eq_true rfl) ?_
  refine z_leq (L' := [_, _, _, _]) rfl ?_
  refine z_iconst F (nI 0) dX13_heaviest_2 rfl ?_
  refine z_istore_n F dX13_heaviest_3 (Nat.le_of_ble_eq_true rfl) ?_
  refine z_leq (L' := [_, _, _, _]) rfl ?_
  exact rows (n + 1) 0 (by omega) (by omega)
abbrev wPt (n : Nat) (d jo tr : Int32) (f : Nat → Int32) (Hm L : Nat → Nat → Int32) (Sd Ow : Nat → Int32) : List zE := [zH, eWy 2 4 5 6 7 8 9 jo tr, eNet 3 (nI n) d, zAi 0 24 f, zH, zMi 4 0 24 24 Hm, zMi 4 0 24 24 L, zH, zAi 0 24 Sd, zAi 0 24 Ow]
theorem c_wpattern (n dd : Nat) (f : Nat → Int32) (d jo tr : Int32) (Hm : Nat → Nat → Int32) (Sd Ow : Nat → Int32) (h : nok n dd f) (hc : conn n f (allB n)) (hH : ∀ x y, x < n → y < n → ¬ x = y → Hm x y = nI (hv n f x y)) :
    zCtr yX13_pattern cX13_pattern 4 (some .int) 28 0 0 [zr 1 0] (wPt n d jo tr f Hm (lall n f n) Sd Ow) (fun r w => r = some (zi (nI (ptA n f n))) ∧ ∃ tr' Sd' Ow', w = wPt n d jo tr' f Hm (lall n f n) Sd' Ow') zNx := by
  refine z_start (by decide) [some (zr 1 0), none, none, none] rfl (fun _ => Nat.le_of_ble_eq_true rfl) (fun _ => rfl) (fun X F E hno hin => ?_)
  have hn := h.n24
  have row : ∀ (a : Nat), a < n → (∀ tr Sd Ow, Z X [some (zr 1 0), some (zi (nI (ptA n f (a + 1)))), some (zi (nI (a + 1))), none] [] (wPt n d jo tr f Hm (lall n f n) Sd Ow) 0 0 4) → ∀ (m b : Nat) (tr : Int32) (Sd Ow : Nat → Int32), n - b < m → b ≤ n → Z X [some (zr 1 0), some (zi (nI (ptR n f a (ptA n f a) b))), some (zi (nI a)), some (zi (nI b))] [] (wPt n d jo tr f Hm (lall n f n) Sd Ow) 0 0 17 := by
    intro a ha kk m
    induction m with
    | zero => intro b tr Sd Ow hm; omega
    | succ m ih =>
      intro b tr Sd Ow hm hb
      have hld := ldN_lt (n := n) (f := f) (a := a) (b := b) hn
      have hlg := gN_load (n := n) (f := f) (a := a) (b := b)
      have hgk := gN_k (g := hvG n f a b) n
      have hpl := ptR_le (f := f) (a := a) (ptA_le (n := n) (f := f) a) b
      have i1 := fun tr Sd Ow z => ih (b + 1) tr Sd Ow (by omega) z
      rw [ptR] at i1
      have e1 : lall n f n a b = nI (ldN n f a b) := lall_vs
      refine z_iload_n F dX13_pattern_17 rfl ?_
      refine z_aload_n F dX13_pattern_18 rfl ?_
      refine z_get F zC13 (f := 0) rfl (Nat.le_of_ble_eq_true rfl) q1317 rfl dX13_pattern_19 ?_
      refine z_getN F zC5 (f := 0) rfl (Nat.le_of_ble_eq_true rfl) q239 rfl dX13_pattern_22 ?_
      refine z_icmp_geN F (by omega) (by omega) (tgt := 69) dX13_pattern_25 (by decide) (fun c_25 => ?_) (fun c_25 => ?_)
      · refine z_iincN F 1 dX13_pattern_69 rfl rfl ?_
        refine z_leq (L' := [_, _, _, _]) rfl ?_
        refine z_goto F (tgt := 4) dX13_pattern_72 (by decide) ?_
        refine z_loc _ ?_ (kk tr Sd Ow)
        rw [show b = n by omega]
        exact ⟨rfl, rfl, rfl, trivial⟩
      · refine z_aload_n F dX13_pattern_28 rfl ?_
        refine z_get F zC13 (f := 0) rfl (Nat.le_of_ble_eq_true rfl) q1317 rfl dX13_pattern_29 ?_
        refine z_iload_n F dX13_pattern_32 rfl ?_
        refine z_iload_n F dX13_pattern_33 rfl ?_
        refine z_callV F (c_has (nI n) d f a b (by omega) (by omega)) 2 rfl (lw_V q1312 q508 q509 q116 q510) (by decide +kernel) ⟨Nat.le_of_ble_eq_true rfl, Nat.le_of_ble_eq_true rfl⟩ ⟨by omega, by omega⟩ [0, 2, 3] 10 ⟨rfl, rfl, rfl, ⟨Or.inl rfl, Or.inr rfl, Or.inr rfl, trivial⟩⟩ (fun h => nomatch h) (Nat.le_of_ble_eq_true rfl) ⟨⟨Or.inr trivial, Or.inr rfl, Or.inl rfl, Or.inl rfl, Or.inr trivial, Or.inr trivial, Or.inr trivial, Or.inr trivial, Or.inr trivial, Or.inr trivial, trivial⟩, rfl, rfl, rfl, Nat.le_of_ble_eq_true rfl⟩ rfl zC5 rfl rfl dX13_pattern_34 (fun r_34 w_34 hp => ?_) (fun _ _ h => h.elim)
        obtain ⟨rfl, rfl⟩ := hp
        refine z_weq (w' := [zH, zO _ [zr _ _, zi _, zr _ _, zr _ _, zr _ _, zr _ _, zr _ _, zr _ _, zi _], zO _ [zi _, zi _, zr _ _], zAi 0 24 _, zH, zMi 4 0 24 24 _, zMi 4 0 24 24 _, zH, zAi 0 24 _, zAi 0 24 _]) rfl ?_
        refine z_seq (S' := zi _ :: _) rfl ?_
        refine z_if_eqB F (tgt := 63) dX13_pattern_37 (by decide) (fun c_37 => ?_) (fun c_37 => ?_)
        · refine z_iincN F 1 dX13_pattern_63 rfl rfl ?_
          refine z_leq (L' := [_, _, _, _]) rfl ?_
          refine z_goto F (tgt := 17) dX13_pattern_66 (by decide) ?_
          have i2 := i1 tr Sd Ow (by omega)
          rw [if_neg (fun z => by rw [c_37] at z; cases z)] at i2
          exact i2
        · refine z_aload_n F dX13_pattern_40 rfl ?_
          refine z_get F zC13 (f := 4) rfl (Nat.le_of_ble_eq_true rfl) q1323 rfl dX13_pattern_41 ?_
          refine z_iload_n F dX13_pattern_44 rfl ?_
          refine z_aaldMN F rfl (Or.inl rfl) (Nat.le_of_ble_eq_true rfl) (by omega) dX13_pattern_45 ?_
          refine z_iload_n F dX13_pattern_46 rfl ?_
          refine z_ialdMN F rfl (by omega) (Nat.le_of_ble_eq_true rfl) (by omega) rfl dX13_pattern_47 ?_
          refine z_ieq (e1) ?_
          refine z_iload_n F dX13_pattern_48 rfl ?_
          refine z_icmp_leN F (by omega) (by omega) (tgt := 63) dX13_pattern_49 (by decide) (fun c_49 => ?_) (fun c_49 => ?_)
          · refine z_iincN F 1 dX13_pattern_63 rfl rfl ?_
            refine z_leq (L' := [_, _, _, _]) rfl ?_
            refine z_goto F (tgt := 17) dX13_pattern_66 (by decide) ?_
            have i2 := i1 tr Sd Ow (by omega)
            rw [if_pos c_37, Nat.max_eq_left (by omega)] at i2
            exact i2
          · refine z_iload_n F dX13_pattern_52 rfl ?_
            refine z_aload_n F dX13_pattern_53 rfl ?_
            refine z_iload_n F dX13_pattern_54 rfl ?_
            refine z_iload_n F dX13_pattern_55 rfl ?_
            refine z_callV F (c_wmatching n dd f d jo tr Hm Sd Ow a b h hc ha (by omega) hH) 2 rfl (lw_V q1379 q1381 qs34 q141 q1382) (by decide +kernel) ⟨Nat.le_of_ble_eq_true rfl, Nat.le_of_ble_eq_true rfl⟩ ⟨by omega, by omega⟩ [0, 1, 2, 3, 4, 5, 6, 7, 8, 9] 10 ⟨rfl, rfl, rfl, ⟨Or.inl rfl, Or.inr rfl, Or.inr rfl, Or.inl rfl, Or.inl rfl, Or.inr rfl, Or.inl rfl, Or.inl rfl, Or.inr rfl, Or.inr rfl, trivial⟩⟩ (fun h => nomatch h) (Nat.le_of_ble_eq_true rfl) ⟨⟨Or.inr trivial, Or.inl rfl, Or.inl rfl, Or.inr trivial, Or.inr trivial, Or.inl rfl, Or.inr trivial, Or.inr trivial, Or.inl rfl, Or.inl rfl, trivial⟩, rfl, rfl, rfl, Nat.le_of_ble_eq_true rfl⟩ rfl zC13 rfl rfl dX13_pattern_56 (fun r_56 w_56 hp => ?_) (fun _ _ h => h.elim)
            obtain ⟨rfl, tr2, Sd2, Ow2, rfl⟩ := hp
            refine z_weq (w' := [zH, zO _ [zr _ _, zi _, zr _ _, zr _ _, zr _ _, zr _ _, zr _ _, zr _ _, zi _], zO _ [zi _, zi _, zr _ _], zAi 0 24 _, zH, zMi 4 0 24 24 _, zMi 4 0 24 24 _, zH, zAi 0 24 _, zAi 0 24 _]) rfl ?_
            refine z_seq (S' := zi _ :: _) rfl ?_
            refine z_mmax F q1391 dX13_pattern_59 (Nat.le_of_ble_eq_true rfl) rfl (Nat.le_of_ble_eq_true rfl) ⟨by omega, by omega⟩ ?_
            refine z_ieq (mmaxN (by omega) (by omega)) ?_
            refine z_istore_n F dX13_pattern_62 (Nat.le_of_ble_eq_true rfl) ?_
            refine z_leq (L' := [_, _, _, _]) rfl ?_
            refine z_iincN F 1 dX13_pattern_63 rfl rfl ?_
            refine z_leq (L' := [_, _, _, _]) rfl ?_
            refine z_goto F (tgt := 17) dX13_pattern_66 (by decide) ?_
            have i2 := i1 tr2 Sd2 Ow2 (by omega)
            rw [if_pos c_37] at i2
            exact i2
  have rows : ∀ (m a : Nat) (tr : Int32) (Sd Ow : Nat → Int32), n - a < m → a ≤ n → Z X [some (zr 1 0), some (zi (nI (ptA n f a))), some (zi (nI a)), none] [] (wPt n d jo tr f Hm (lall n f n) Sd Ow) 0 0 4 := by
    intro m
    induction m with
    | zero => intro a tr Sd Ow hm; omega
    | succ m ih =>
      intro a tr Sd Ow hm ha
      refine z_iload_n F dX13_pattern_4 rfl ?_
      refine z_aload_n F dX13_pattern_5 rfl ?_
      refine z_get F zC13 (f := 0) rfl (Nat.le_of_ble_eq_true rfl) q1317 rfl dX13_pattern_6 ?_
      refine z_getN F zC5 (f := 0) rfl (Nat.le_of_ble_eq_true rfl) q239 rfl dX13_pattern_9 ?_
      refine z_icmp_geN F (by omega) (by omega) (tgt := 75) dX13_pattern_12 (by decide) (fun c_12 => ?_) (fun c_12 => ?_)
      · refine z_iload_n F dX13_pattern_75 rfl ?_
        exact z_iret F E rfl dX13_pattern_76 (by omega) (by omega) (⟨by rw [show a = n by omega], tr, Sd, Ow, rfl⟩)
      · refine z_iconst F (nI 0) dX13_pattern_15 rfl ?_
        refine z_istore_n F dX13_pattern_16 (Nat.le_of_ble_eq_true rfl) ?_
        refine z_leq (L' := [_, _, _, _]) rfl ?_
        exact row a (by omega) (fun tr Sd Ow => ih (a + 1) tr Sd Ow (by omega) (by omega)) (n + 1) 0 tr Sd Ow (by omega) (by omega)
  refine z_iconst F (nI 0) dX13_pattern_0 rfl ?_
  refine z_istore_n F dX13_pattern_1 (Nat.le_of_ble_eq_true rfl) ?_
  refine z_leq (L' := [_, _, _, _]) rfl ?_
  refine z_iconst F (nI 0) dX13_pattern_2 rfl ?_
  refine z_istore_n F dX13_pattern_3 (Nat.le_of_ble_eq_true rfl) ?_
  refine z_leq (L' := [_, _, _, _]) rfl ?_
  exact rows (n + 1) 0 tr Sd Ow (by omega) (by omega)
noncomputable def hyV (n : Nat) (f : Nat → Int32) (what : Nat) : Int32 := if cjn n f = true then (if what = 0 then nI (hyL n f (hyA n f n)) else if what = 1 then hyI (hyA n f n) else nI (ptA n f n)) else -1
theorem c_pheavy (P : zPt) (t : Nat) (fp : Int32) (j n d what : Nat) (f : Nat → Int32) (hw : what < 3) (hj : j < 8) (h : nok n d f) (hP : P j = some (nI n, nI d, f)) : zCtr yX1_heavy cX1_heavy 6 (some .int) 29 114 2627 [zr 1 0, zi (nI j), zi (nI what)] (xH P t fp) (fun r w => r = some (zi (hyV n f what)) ∧ w = xH P t fp) zNx := by
  refine z_start (by decide) [some (zr 1 0), some (zi (nI j)), some (zi (nI what)), none, none, none] rfl (fun _ => Nat.le_of_ble_eq_true rfl) (fun _ => rfl) (fun X F E hno hin => ?_)
  have h1 := h.n1
  have h24 := h.n24
  refine z_aload_n F dX1_heavy_0 rfl ?_
  refine z_iload_n F dX1_heavy_1 rfl ?_
  refine z_callV F (c_netAt_ok P t fp j hj hP) 1 rfl (lw_V q429 q431 qs0 q109 q432) (by decide +kernel) ⟨Nat.le_of_ble_eq_true rfl, Nat.le_of_ble_eq_true rfl⟩ ⟨by omega, by omega⟩ [0, 1, 2, 3, 4, 5, 6, 7, 8, 9, 10, 11, 12, 13, 14, 15, 16, 17, 18, 19, 20, 21] 22 ⟨rfl, rfl, rfl, ⟨Or.inr (congrArg some (zrnP rfl).symm), Or.inr rfl, Or.inl rfl, Or.inl rfl, Or.inl rfl, Or.inl rfl, Or.inl rfl, Or.inl rfl, Or.inl rfl, Or.inl rfl, Or.inl rfl, Or.inl rfl, Or.inl rfl, Or.inl rfl, Or.inl rfl, Or.inl rfl, Or.inl rfl, Or.inl rfl, Or.inl rfl, Or.inl rfl, Or.inl rfl, Or.inl rfl, trivial⟩⟩ (fun _ => rfl) (Nat.le_of_ble_eq_true rfl) ⟨⟨Or.inl rfl, Or.inl rfl, Or.inr trivial, Or.inr trivial, Or.inr trivial, Or.inr trivial, Or.inr trivial, Or.inr trivial, Or.inr trivial, Or.inr trivial, Or.inr trivial, Or.inr trivial, Or.inr trivial, Or.inr trivial, Or.inr trivial, Or.inr trivial, Or.inr trivial, Or.inr trivial, Or.inr trivial, Or.inr trivial, Or.inr trivial, Or.inr trivial, trivial⟩, rfl, rfl, rfl, Nat.le_of_ble_eq_true rfl⟩ rfl zC1 rfl rfl dX1_heavy_2 (fun r_2 w_2 hp => ?_) (fun _ _ h => h.elim)
  obtain ⟨rfl, rfl⟩ := hp
  refine z_weq (w' := zPl (pR _) _ :: _) (congrArg (fun z => z :: _) (zrnP rfl)) ?_
  refine z_weq (w' := [zPl _ _, zO _ [zr _ _, zr _ _, zr _ _, zr _ _, zr _ _, zi _, zi _, zr _ _, zr _ _], zH, zH, zH, zH, zH, zH, zH, zH, zH, zH, zH, zH, zH, zH, zH, zH, zH, zH, zH, zH]) rfl ?_
  refine z_seq (S' := zr _ _ :: _) rfl ?_
  refine z_astore_n F dX1_heavy_5 (Nat.le_of_ble_eq_true rfl) ?_
  refine z_leq (L' := [_, _, _, _, _, _]) rfl ?_
  refine z_foc F j hj hP (N := 22) (M := 23) (L' := [_, _, _, some (zr 22 0), _, _]) (S' := []) rfl rfl (Nat.le_of_ble_eq_true rfl) ⟨rfl, trivial, trivial, trivial, trivial, trivial, trivial, trivial, trivial, trivial, trivial, trivial, trivial, trivial, trivial, trivial, trivial, trivial, trivial, trivial, trivial, trivial⟩ ⟨Or.inl rfl, Or.inl rfl, Or.inl rfl, Or.inr ⟨rfl, rfl⟩, Or.inl rfl, Or.inl rfl, trivial⟩ rfl trivial rfl ?_
  refine z_weq (w' := [zPl _ _, zO _ [zr _ _, zr _ _, zr _ _, zr _ _, zr _ _, zi _, zi _, zr _ _, zr _ _], zH, zH, zH, zH, zH, zH, zH, zH, zH, zH, zH, zH, zH, zH, zH, zH, zH, zH, zH, zH, zO _ [zi _, zi _, zr _ _], zAi 0 24 _]) rfl ?_
  refine z_iload_n F dX1_heavy_6 rfl ?_
  refine z_iconst F (nI 0) dX1_heavy_7 rfl ?_
  refine z_iconst F (nI 2) dX1_heavy_8 rfl ?_
  refine z_callS F (c_in (nI what) (nI 0) (nI 2)) 3 rfl (lw_S q349 q350 q109 q351) (by decide +kernel) ⟨Nat.le_of_ble_eq_true rfl, Nat.le_of_ble_eq_true rfl⟩ ⟨by omega, by omega⟩ [0] 24 ⟨rfl, rfl, rfl, ⟨Or.inl rfl, trivial⟩⟩ (fun h => nomatch h) (Nat.le_of_ble_eq_true rfl) ⟨⟨Or.inr (by first | exact ⟨rfl, pR_B _ (by decide)⟩ | exact ⟨rfl, uR_B (by decide) (by decide)⟩), Or.inr rfl, Or.inr trivial, Or.inr trivial, Or.inr trivial, Or.inr trivial, Or.inr trivial, Or.inr trivial, Or.inr trivial, Or.inr trivial, Or.inr trivial, Or.inr trivial, Or.inr trivial, Or.inr trivial, Or.inr trivial, Or.inr trivial, Or.inr trivial, Or.inr trivial, Or.inr trivial, Or.inr trivial, Or.inr trivial, Or.inr trivial, Or.inr rfl, Or.inr trivial, trivial⟩, rfl, rfl, rfl, Nat.le_of_ble_eq_true rfl⟩ rfl rfl dX1_heavy_9 (fun r_9 w_9 hp => ?_) (fun _ _ h => h.elim)
  obtain ⟨rfl, rfl⟩ := hp
  refine z_weq (w' := [zPl _ _, zO _ [zr _ _, zr _ _, zr _ _, zr _ _, zr _ _, zi _, zi _, zr _ _, zr _ _], zH, zH, zH, zH, zH, zH, zH, zH, zH, zH, zH, zH, zH, zH, zH, zH, zH, zH, zH, zH, zO _ [zi _, zi _, zr _ _], zAi 0 24 _]) rfl ?_
  refine z_seq (S' := zi _ :: _) rfl ?_
  rw [show inB (nI what) (nI 0) (nI 2) = true from inB_n (by omega) (by omega) (by omega)]
  refine z_callS F (c_fnd true) 1 rfl (lw_S q433 q434 q109 q435) (by decide +kernel) ⟨Nat.le_of_ble_eq_true rfl, Nat.le_of_ble_eq_true rfl⟩ ⟨by omega, by omega⟩ [0] 24 ⟨rfl, rfl, rfl, ⟨Or.inl rfl, trivial⟩⟩ (fun h => nomatch h) (Nat.le_of_ble_eq_true rfl) ⟨⟨Or.inr (by first | exact ⟨rfl, pR_B _ (by decide)⟩ | exact ⟨rfl, uR_B (by decide) (by decide)⟩), Or.inr rfl, Or.inr trivial, Or.inr trivial, Or.inr trivial, Or.inr trivial, Or.inr trivial, Or.inr trivial, Or.inr trivial, Or.inr trivial, Or.inr trivial, Or.inr trivial, Or.inr trivial, Or.inr trivial, Or.inr trivial, Or.inr trivial, Or.inr trivial, Or.inr trivial, Or.inr trivial, Or.inr trivial, Or.inr trivial, Or.inr trivial, Or.inr rfl, Or.inr trivial, trivial⟩, rfl, rfl, rfl, Nat.le_of_ble_eq_true rfl⟩ rfl rfl dX1_heavy_12 (fun r_12 w_12 hp => ?_) (fun E_ w_ hx => by obtain ⟨-, hb, -⟩ := hx; cases hb)
  obtain ⟨rfl, -, rfl⟩ := hp
  refine z_weq (w' := [zPl _ _, zO _ [zr _ _, zr _ _, zr _ _, zr _ _, zr _ _, zi _, zi _, zr _ _, zr _ _], zH, zH, zH, zH, zH, zH, zH, zH, zH, zH, zH, zH, zH, zH, zH, zH, zH, zH, zH, zH, zO _ [zi _, zi _, zr _ _], zAi 0 24 _]) rfl ?_
  refine z_seq (S' := []) rfl ?_
  refine z_new F 24 [zn, zi 0, zn, zn, zn, zn, zn, zn, zi 0] zC13 q1296 q1297 q141 (fun _ j hj => by match j, hj with | 0, _ => rfl | 1, _ => rfl | 2, _ => rfl | 3, _ => rfl | 4, _ => rfl | 5, _ => rfl | 6, _ => rfl | 7, _ => rfl | 8, _ => rfl) rfl (Nat.le_of_ble_eq_true rfl) (Nat.le_of_ble_eq_true rfl) ⟨(by first | exact pR_N _ (Nat.le_of_ble_eq_true rfl) | exact uR_N (Nat.le_of_ble_eq_true rfl) (Nat.le_of_ble_eq_true rfl)), rfl, trivial, trivial, trivial, trivial, trivial, trivial, trivial, trivial, trivial, trivial, trivial, trivial, trivial, trivial, trivial, trivial, trivial, trivial, trivial, trivial, rfl, trivial, trivial⟩ rfl rfl ⟨by omega, by omega⟩ dX1_heavy_15 ?_
  refine z_weq (w' := [_, _, _, _, _, _, _, _, _, _, _, _, _, _, _, _, _, _, _, _, _, _, _, _, _]) rfl ?_
  refine z_dup F dX1_heavy_18 rfl ?_
  refine z_aload_n F dX1_heavy_19 rfl ?_
  refine z_callI F (c_waysInit n d f h) 1 rfl (lw_meth q1300) q141 q1298 q1299 rfl (by decide +kernel) ⟨Nat.le_of_ble_eq_true rfl, Nat.le_of_ble_eq_true rfl⟩ ⟨by omega, by omega⟩ [0, 24, 22, 23] 25 ⟨rfl, rfl, rfl, ⟨Or.inl rfl, Or.inr rfl, Or.inr rfl, Or.inr rfl, trivial⟩⟩ (fun h => nomatch h) (Nat.le_of_ble_eq_true rfl) ⟨⟨Or.inr (by first | exact ⟨rfl, pR_B _ (by decide)⟩ | exact ⟨rfl, uR_B (by decide) (by decide)⟩), Or.inr rfl, Or.inr trivial, Or.inr trivial, Or.inr trivial, Or.inr trivial, Or.inr trivial, Or.inr trivial, Or.inr trivial, Or.inr trivial, Or.inr trivial, Or.inr trivial, Or.inr trivial, Or.inr trivial, Or.inr trivial, Or.inr trivial, Or.inr trivial, Or.inr trivial, Or.inr trivial, Or.inr trivial, Or.inr trivial, Or.inr trivial, Or.inl rfl, Or.inl rfl, Or.inl rfl, trivial⟩, rfl, rfl, rfl, Nat.le_of_ble_eq_true rfl⟩ rfl rfl dX1_heavy_20 (fun r_20 w_20 hp => ?_) (fun _ _ h => h.elim)
  obtain ⟨rfl, M1, H1, L1, F1, rfl, hw1, hw2⟩ := hp
  refine z_weq (w' := [zPl _ _, zO _ [zr _ _, zr _ _, zr _ _, zr _ _, zr _ _, zi _, zi _, zr _ _, zr _ _], zH, zH, zH, zH, zH, zH, zH, zH, zH, zH, zH, zH, zH, zH, zH, zH, zH, zH, zH, zH, zO _ [zi _, zi _, zr _ _], zAi 0 24 _, zO _ [zr _ _, zi _, zr _ _, zr _ _, zr _ _, zr _ _, zr _ _, zr _ _, zi _], zMi 4 0 24 24 _, zMi 4 0 24 24 _, zMi 4 0 24 24 _, zMi 4 0 24 24 _, zAi 0 24 _, zAi 0 24 _]) rfl ?_
  refine z_seq (S' := [_]) rfl ?_
  refine z_astore F dX1_heavy_23 (Nat.le_of_ble_eq_true rfl) ?_
  refine z_leq (L' := [_, _, _, _, _, _]) rfl ?_
  refine z_aload F dX1_heavy_25 rfl ?_
  refine z_getN F zC13 (f := 1) rfl (Nat.le_of_ble_eq_true rfl) q1319 rfl dX1_heavy_27 ?_
  refine z_if_neB F (tgt := 35) dX1_heavy_30 (by decide) (fun c_30 => ?_) (fun c_30 => ?_)
  · obtain ⟨⟨q1, q2⟩, rfl, rfl⟩ := hw1 c_30
    have hcj : conn n f (allB n) := (cjn_conn h.n1 h.n24 (fun a b ha hb => h.sym ha hb)).mp c_30
    have hH : ∀ x y, x < n → y < n → ¬ x = y → H1 x y = nI (hv n f x y) := fun x y hx hy hxy => by rw [q2 x y hx hy, if_neg hxy]
    refine z_iload_n F dX1_heavy_35 rfl ?_
    refine z_iconst F (nI 2) dX1_heavy_36 rfl ?_
    refine z_icmp_neN F (by omega) (by omega) (tgt := 46) dX1_heavy_37 (by decide) (fun c_37 => ?_) (fun c_37 => ?_)
    · refine z_aload F dX1_heavy_46 rfl ?_
      refine z_callV F (c_wheaviest n d f (nI d) (bI (cjn n f)) 0 h) 0 rfl (lw_V q1392 q1393 q1394 q141 q1395) (by decide +kernel) ⟨Nat.le_of_ble_eq_true rfl, Nat.le_of_ble_eq_true rfl⟩ ⟨by omega, by omega⟩ [0, 24, 22, 23, 25, 26, 27, 28, 29, 30] 31 ⟨rfl, rfl, rfl, ⟨Or.inl rfl, Or.inr rfl, Or.inr rfl, Or.inr rfl, Or.inl rfl, Or.inl rfl, Or.inr rfl, Or.inl rfl, Or.inl rfl, Or.inl rfl, trivial⟩⟩ (fun h => nomatch h) (Nat.le_of_ble_eq_true rfl) ⟨⟨Or.inr (by first | exact ⟨rfl, pR_B _ (by decide)⟩ | exact ⟨rfl, uR_B (by decide) (by decide)⟩), Or.inr rfl, Or.inr trivial, Or.inr trivial, Or.inr trivial, Or.inr trivial, Or.inr trivial, Or.inr trivial, Or.inr trivial, Or.inr trivial, Or.inr trivial, Or.inr trivial, Or.inr trivial, Or.inr trivial, Or.inr trivial, Or.inr trivial, Or.inr trivial, Or.inr trivial, Or.inr trivial, Or.inr trivial, Or.inr trivial, Or.inr trivial, Or.inl rfl, Or.inl rfl, Or.inl rfl, Or.inr trivial, Or.inr trivial, Or.inl rfl, Or.inr trivial, Or.inr trivial, Or.inr trivial, trivial⟩, rfl, rfl, rfl, Nat.le_of_ble_eq_true rfl⟩ rfl zC13 rfl rfl dX1_heavy_48 (fun r_48 w_48 hp => ?_) (fun _ _ h => h.elim)
      obtain ⟨rfl, rfl⟩ := hp
      refine z_weq (w' := [zPl _ _, zO _ [zr _ _, zr _ _, zr _ _, zr _ _, zr _ _, zi _, zi _, zr _ _, zr _ _], zH, zH, zH, zH, zH, zH, zH, zH, zH, zH, zH, zH, zH, zH, zH, zH, zH, zH, zH, zH, zO _ [zi _, zi _, zr _ _], zAi 0 24 _, zO _ [zr _ _, zi _, zr _ _, zr _ _, zr _ _, zr _ _, zr _ _, zr _ _, zi _], zMi 4 0 24 24 _, zMi 4 0 24 24 _, zMi 4 0 24 24 _, zMi 4 0 24 24 _, zAi 0 24 _, zAi 0 24 _]) rfl ?_
      refine z_seq (S' := zi _ :: _) rfl ?_
      refine z_istore F dX1_heavy_51 (Nat.le_of_ble_eq_true rfl) ?_
      refine z_leq (L' := [_, _, _, _, _, _]) rfl ?_
      refine z_iload_n F dX1_heavy_53 rfl ?_
      refine z_iconst F (nI 1) dX1_heavy_54 rfl ?_
      refine z_icmp_neN F (by omega) (by omega) (tgt := 63) dX1_heavy_55 (by decide) (fun c_55 => ?_) (fun c_55 => ?_)
      · refine z_iload F dX1_heavy_63 rfl ?_
        refine z_iconst F (-1) dX1_heavy_65 rfl ?_
        refine z_icmp_ne F (tgt := 73) dX1_heavy_66 (by decide) (fun c_66 => ?_) (fun c_66 => ?_)
        · obtain ⟨p, q, hs, hp1, hp2⟩ := hy_some (hyA_q n (Nat.le_refl _)) c_66
          have hld2 := ldN_lt (n := n) (f := f) (a := p) (b := q) h24
          refine z_aload F dX1_heavy_73 rfl ?_
          refine z_getN F zC13 (f := 4) rfl (Nat.le_of_ble_eq_true rfl) q1324 rfl dX1_heavy_75 ?_
          refine z_iload F dX1_heavy_78 rfl ?_
          refine z_ieq ((congrArg hyI hs)) ?_
          refine z_iconst F (nI 5) dX1_heavy_80 rfl ?_
          refine z_ishr F dX1_heavy_81 ?_
          refine z_ieq (pc_hi (by omega) (by omega)) ?_
          refine z_aaldMN F rfl (Or.inl rfl) (Nat.le_of_ble_eq_true rfl) (by omega) dX1_heavy_82 ?_
          refine z_iload F dX1_heavy_83 rfl ?_
          refine z_ieq ((congrArg hyI hs)) ?_
          refine z_bipush F (nI 31) dX1_heavy_85 rfl ?_
          refine z_iand F dX1_heavy_87 ?_
          refine z_ieq (pc_lo (by omega) (by omega)) ?_
          refine z_ialdMN F rfl (by omega) (Nat.le_of_ble_eq_true rfl) (by omega) rfl dX1_heavy_88 ?_
          refine z_loc [some _, some _, some _, none, none, some _] ⟨rfl, rfl, rfl, rfl, trivial⟩ ?_
          refine z_unfocus F rfl j 22 23 22 hj zput_self rfl rfl (Nat.le_of_ble_eq_true rfl) (Nat.le_of_ble_eq_true rfl) (Nat.le_of_ble_eq_true rfl) (Nat.le_of_ble_eq_true rfl) [zO _ [zr _ _, zr _ _, zr _ _, zr _ _, zr _ _, zi _, zi _, zr _ _, zr _ _], zH, zH, zH, zH, zH, zH, zH, zH, zH, zH, zH, zH, zH, zH, zH, zH, zH, zH, zH, zH] rfl ⟨rfl, trivial, trivial, trivial, trivial, trivial, trivial, trivial, trivial, trivial, trivial, trivial, trivial, trivial, trivial, trivial, trivial, trivial, trivial, trivial, trivial, trivial⟩ uOK rfl rfl ?_
          refine z_weq (w' := zPl (pR (zput P j (some _))) (zput P j (some _)) :: _) (congrArg (fun z => z :: _) uPl2) ?_
          exact z_iret F E rfl dX1_heavy_89 (by omega) (by omega) (⟨by rw [hyV, if_pos c_30, if_pos (by omega), hs, lall_vs]; rfl, by rw [zput_some hP]; rfl⟩)
        · refine z_iconst F (nI 0) dX1_heavy_69 rfl ?_
          refine z_goto F (tgt := 89) dX1_heavy_70 (by decide) ?_
          refine z_loc [some _, some _, some _, none, none, some _] ⟨rfl, rfl, rfl, rfl, trivial⟩ ?_
          refine z_unfocus F rfl j 22 23 22 hj zput_self rfl rfl (Nat.le_of_ble_eq_true rfl) (Nat.le_of_ble_eq_true rfl) (Nat.le_of_ble_eq_true rfl) (Nat.le_of_ble_eq_true rfl) [zO _ [zr _ _, zr _ _, zr _ _, zr _ _, zr _ _, zi _, zi _, zr _ _, zr _ _], zH, zH, zH, zH, zH, zH, zH, zH, zH, zH, zH, zH, zH, zH, zH, zH, zH, zH, zH, zH] rfl ⟨rfl, trivial, trivial, trivial, trivial, trivial, trivial, trivial, trivial, trivial, trivial, trivial, trivial, trivial, trivial, trivial, trivial, trivial, trivial, trivial, trivial, trivial⟩ uOK rfl rfl ?_
          refine z_weq (w' := zPl (pR (zput P j (some _))) (zput P j (some _)) :: _) (congrArg (fun z => z :: _) uPl2) ?_
          exact z_iret F E rfl dX1_heavy_89 (by omega) (by omega) (⟨by rw [hyV, if_pos c_30, if_pos (by omega), hy_none (hyA_q n (Nat.le_refl _)) h24 c_66]; rfl, by rw [zput_some hP]; rfl⟩)
      · refine z_iload F dX1_heavy_58 rfl ?_
        refine z_goto F (tgt := 89) dX1_heavy_60 (by decide) ?_
        refine z_loc [some _, some _, some _, none, none, some _] ⟨rfl, rfl, rfl, rfl, trivial⟩ ?_
        refine z_unfocus F rfl j 22 23 22 hj zput_self rfl rfl (Nat.le_of_ble_eq_true rfl) (Nat.le_of_ble_eq_true rfl) (Nat.le_of_ble_eq_true rfl) (Nat.le_of_ble_eq_true rfl) [zO _ [zr _ _, zr _ _, zr _ _, zr _ _, zr _ _, zi _, zi _, zr _ _, zr _ _], zH, zH, zH, zH, zH, zH, zH, zH, zH, zH, zH, zH, zH, zH, zH, zH, zH, zH, zH, zH] rfl ⟨rfl, trivial, trivial, trivial, trivial, trivial, trivial, trivial, trivial, trivial, trivial, trivial, trivial, trivial, trivial, trivial, trivial, trivial, trivial, trivial, trivial, trivial⟩ uOK rfl rfl ?_
        refine z_weq (w' := zPl (pR (zput P j (some _))) (zput P j (some _)) :: _) (congrArg (fun z => z :: _) uPl2) ?_
        exact z_iret F E rfl dX1_heavy_89 (by omega) (by omega) (⟨by rw [hyV, if_pos c_30, if_neg (by omega), if_pos (by omega)], by rw [zput_some hP]; rfl⟩)
    · refine z_aload F dX1_heavy_40 rfl ?_
      refine z_callV F (c_wpattern n d f (nI d) (bI (cjn n f)) 0 H1 (fun _ => 0) (fun _ => 0) h hcj hH) 0 rfl (lw_V q1375 q1376 q1377 q141 q1378) (by decide +kernel) ⟨Nat.le_of_ble_eq_true rfl, Nat.le_of_ble_eq_true rfl⟩ ⟨by omega, by omega⟩ [0, 24, 22, 23, 25, 26, 27, 28, 29, 30] 31 ⟨rfl, rfl, rfl, ⟨Or.inl rfl, Or.inr rfl, Or.inr rfl, Or.inr rfl, Or.inl rfl, Or.inr rfl, Or.inr rfl, Or.inl rfl, Or.inr rfl, Or.inr rfl, trivial⟩⟩ (fun h => nomatch h) (Nat.le_of_ble_eq_true rfl) ⟨⟨Or.inr (by first | exact ⟨rfl, pR_B _ (by decide)⟩ | exact ⟨rfl, uR_B (by decide) (by decide)⟩), Or.inr rfl, Or.inr trivial, Or.inr trivial, Or.inr trivial, Or.inr trivial, Or.inr trivial, Or.inr trivial, Or.inr trivial, Or.inr trivial, Or.inr trivial, Or.inr trivial, Or.inr trivial, Or.inr trivial, Or.inr trivial, Or.inr trivial, Or.inr trivial, Or.inr trivial, Or.inr trivial, Or.inr trivial, Or.inr trivial, Or.inr trivial, Or.inl rfl, Or.inl rfl, Or.inl rfl, Or.inr trivial, Or.inl rfl, Or.inl rfl, Or.inr trivial, Or.inl rfl, Or.inl rfl, trivial⟩, rfl, rfl, rfl, Nat.le_of_ble_eq_true rfl⟩ rfl zC13 rfl rfl dX1_heavy_42 (fun r_42 w_42 hp => ?_) (fun _ _ h => h.elim)
      obtain ⟨rfl, tr2, Sd2, Ow2, rfl⟩ := hp
      refine z_weq (w' := [zPl _ _, zO _ [zr _ _, zr _ _, zr _ _, zr _ _, zr _ _, zi _, zi _, zr _ _, zr _ _], zH, zH, zH, zH, zH, zH, zH, zH, zH, zH, zH, zH, zH, zH, zH, zH, zH, zH, zH, zH, zO _ [zi _, zi _, zr _ _], zAi 0 24 _, zO _ [zr _ _, zi _, zr _ _, zr _ _, zr _ _, zr _ _, zr _ _, zr _ _, zi _], zMi 4 0 24 24 _, zMi 4 0 24 24 _, zMi 4 0 24 24 _, zMi 4 0 24 24 _, zAi 0 24 _, zAi 0 24 _]) rfl ?_
      refine z_seq (S' := zi _ :: _) rfl ?_
      refine z_loc [some _, some _, some _, none, none, none] ⟨rfl, rfl, rfl, trivial⟩ ?_
      refine z_unfocus F rfl j 22 23 22 hj zput_self rfl rfl (Nat.le_of_ble_eq_true rfl) (Nat.le_of_ble_eq_true rfl) (Nat.le_of_ble_eq_true rfl) (Nat.le_of_ble_eq_true rfl) [zO _ [zr _ _, zr _ _, zr _ _, zr _ _, zr _ _, zi _, zi _, zr _ _, zr _ _], zH, zH, zH, zH, zH, zH, zH, zH, zH, zH, zH, zH, zH, zH, zH, zH, zH, zH, zH, zH] rfl ⟨rfl, trivial, trivial, trivial, trivial, trivial, trivial, trivial, trivial, trivial, trivial, trivial, trivial, trivial, trivial, trivial, trivial, trivial, trivial, trivial, trivial, trivial⟩ uOK rfl rfl ?_
      refine z_weq (w' := zPl (pR (zput P j (some _))) (zput P j (some _)) :: _) (congrArg (fun z => z :: _) uPl2) ?_
      exact z_iret F E rfl dX1_heavy_45 (by omega) (by omega) (⟨by rw [hyV, if_pos c_30, if_neg (by omega), if_neg (by omega)], by rw [zput_some hP]; rfl⟩)
  · refine z_iconst F (-1) dX1_heavy_33 rfl ?_
    refine z_loc [some _, some _, some _, none, none, none] ⟨rfl, rfl, rfl, trivial⟩ ?_
    refine z_unfocus F rfl j 22 23 22 hj zput_self rfl rfl (Nat.le_of_ble_eq_true rfl) (Nat.le_of_ble_eq_true rfl) (Nat.le_of_ble_eq_true rfl) (Nat.le_of_ble_eq_true rfl) [zO _ [zr _ _, zr _ _, zr _ _, zr _ _, zr _ _, zi _, zi _, zr _ _, zr _ _], zH, zH, zH, zH, zH, zH, zH, zH, zH, zH, zH, zH, zH, zH, zH, zH, zH, zH, zH, zH] rfl ⟨rfl, trivial, trivial, trivial, trivial, trivial, trivial, trivial, trivial, trivial, trivial, trivial, trivial, trivial, trivial, trivial, trivial, trivial, trivial, trivial, trivial, trivial⟩ uOK rfl rfl ?_
    refine z_weq (w' := zPl (pR (zput P j (some _))) (zput P j (some _)) :: _) (congrArg (fun z => z :: _) uPl2) ?_
    exact z_iret F E rfl dX1_heavy_34 (by omega) (by omega) (⟨by rw [hyV, if_neg (by rw [c_30]; decide)], by rw [zput_some hP]; rfl⟩)
theorem c_pheavy_bad (P : zPt) (t : Nat) (fp : Int32) (j n d : Nat) (f : Nat → Int32) (what : Int32) (hx : inB what (nI 0) (nI 2) = false) (hj : j < 8) (h : nok n d f) (hP : P j = some (nI n, nI d, f)) : zCtr yX1_heavy cX1_heavy 6 (some .int) 29 114 2627 [zr 1 0, zi (nI j), zi what] (xH P t fp) (fun r w => False) (fun E w => E = eNSE ∧ True ∧ w = xH P t fp) := by
  refine z_start (by decide) [some (zr 1 0), some (zi (nI j)), some (zi what), none, none, none] rfl (fun _ => Nat.le_of_ble_eq_true rfl) (fun _ => rfl) (fun X F E hno hin => ?_)
  refine z_aload_n F dX1_heavy_0 rfl ?_
  refine z_iload_n F dX1_heavy_1 rfl ?_
  refine z_callV F (c_netAt_ok P t fp j hj hP) 1 rfl (lw_V q429 q431 qs0 q109 q432) (by decide +kernel) ⟨Nat.le_of_ble_eq_true rfl, Nat.le_of_ble_eq_true rfl⟩ ⟨by omega, by omega⟩ [0, 1, 2, 3, 4, 5, 6, 7, 8, 9, 10, 11, 12, 13, 14, 15, 16, 17, 18, 19, 20, 21] 22 ⟨rfl, rfl, rfl, ⟨Or.inr (congrArg some (zrnP rfl).symm), Or.inr rfl, Or.inl rfl, Or.inl rfl, Or.inl rfl, Or.inl rfl, Or.inl rfl, Or.inl rfl, Or.inl rfl, Or.inl rfl, Or.inl rfl, Or.inl rfl, Or.inl rfl, Or.inl rfl, Or.inl rfl, Or.inl rfl, Or.inl rfl, Or.inl rfl, Or.inl rfl, Or.inl rfl, Or.inl rfl, Or.inl rfl, trivial⟩⟩ (fun _ => rfl) (Nat.le_of_ble_eq_true rfl) ⟨⟨Or.inl rfl, Or.inl rfl, Or.inr trivial, Or.inr trivial, Or.inr trivial, Or.inr trivial, Or.inr trivial, Or.inr trivial, Or.inr trivial, Or.inr trivial, Or.inr trivial, Or.inr trivial, Or.inr trivial, Or.inr trivial, Or.inr trivial, Or.inr trivial, Or.inr trivial, Or.inr trivial, Or.inr trivial, Or.inr trivial, Or.inr trivial, Or.inr trivial, trivial⟩, rfl, rfl, rfl, Nat.le_of_ble_eq_true rfl⟩ rfl zC1 rfl rfl dX1_heavy_2 (fun r_2 w_2 hp => ?_) (fun _ _ h => h.elim)
  obtain ⟨rfl, rfl⟩ := hp
  refine z_weq (w' := zPl (pR _) _ :: _) (congrArg (fun z => z :: _) (zrnP rfl)) ?_
  refine z_weq (w' := [zPl _ _, zO _ [zr _ _, zr _ _, zr _ _, zr _ _, zr _ _, zi _, zi _, zr _ _, zr _ _], zH, zH, zH, zH, zH, zH, zH, zH, zH, zH, zH, zH, zH, zH, zH, zH, zH, zH, zH, zH]) rfl ?_
  refine z_seq (S' := zr _ _ :: _) rfl ?_
  refine z_astore_n F dX1_heavy_5 (Nat.le_of_ble_eq_true rfl) ?_
  refine z_leq (L' := [_, _, _, _, _, _]) rfl ?_
  refine z_foc F j hj hP (N := 22) (M := 23) (L' := [_, _, _, some (zr 22 0), _, _]) (S' := []) rfl rfl (Nat.le_of_ble_eq_true rfl) ⟨rfl, trivial, trivial, trivial, trivial, trivial, trivial, trivial, trivial, trivial, trivial, trivial, trivial, trivial, trivial, trivial, trivial, trivial, trivial, trivial, trivial, trivial⟩ ⟨Or.inl rfl, Or.inl rfl, Or.inl rfl, Or.inr ⟨rfl, rfl⟩, Or.inl rfl, Or.inl rfl, trivial⟩ rfl trivial rfl ?_
  refine z_weq (w' := [zPl _ _, zO _ [zr _ _, zr _ _, zr _ _, zr _ _, zr _ _, zi _, zi _, zr _ _, zr _ _], zH, zH, zH, zH, zH, zH, zH, zH, zH, zH, zH, zH, zH, zH, zH, zH, zH, zH, zH, zH, zO _ [zi _, zi _, zr _ _], zAi 0 24 _]) rfl ?_
  refine z_iload_n F dX1_heavy_6 rfl ?_
  refine z_iconst F (nI 0) dX1_heavy_7 rfl ?_
  refine z_iconst F (nI 2) dX1_heavy_8 rfl ?_
  refine z_callS F (c_in what (nI 0) (nI 2)) 3 rfl (lw_S q349 q350 q109 q351) (by decide +kernel) ⟨Nat.le_of_ble_eq_true rfl, Nat.le_of_ble_eq_true rfl⟩ ⟨by omega, by omega⟩ [0] 24 ⟨rfl, rfl, rfl, ⟨Or.inl rfl, trivial⟩⟩ (fun h => nomatch h) (Nat.le_of_ble_eq_true rfl) ⟨⟨Or.inr (by first | exact ⟨rfl, pR_B _ (by decide)⟩ | exact ⟨rfl, uR_B (by decide) (by decide)⟩), Or.inr rfl, Or.inr trivial, Or.inr trivial, Or.inr trivial, Or.inr trivial, Or.inr trivial, Or.inr trivial, Or.inr trivial, Or.inr trivial, Or.inr trivial, Or.inr trivial, Or.inr trivial, Or.inr trivial, Or.inr trivial, Or.inr trivial, Or.inr trivial, Or.inr trivial, Or.inr trivial, Or.inr trivial, Or.inr trivial, Or.inr trivial, Or.inr rfl, Or.inr trivial, trivial⟩, rfl, rfl, rfl, Nat.le_of_ble_eq_true rfl⟩ rfl rfl dX1_heavy_9 (fun r_9 w_9 hp => ?_) (fun _ _ h => h.elim)
  obtain ⟨rfl, rfl⟩ := hp
  refine z_weq (w' := [zPl _ _, zO _ [zr _ _, zr _ _, zr _ _, zr _ _, zr _ _, zi _, zi _, zr _ _, zr _ _], zH, zH, zH, zH, zH, zH, zH, zH, zH, zH, zH, zH, zH, zH, zH, zH, zH, zH, zH, zH, zO _ [zi _, zi _, zr _ _], zAi 0 24 _]) rfl ?_
  refine z_seq (S' := zi _ :: _) rfl ?_
  rw [hx]
  refine z_callS F (c_fnd false) 1 rfl (lw_S q433 q434 q109 q435) (by decide +kernel) ⟨Nat.le_of_ble_eq_true rfl, Nat.le_of_ble_eq_true rfl⟩ ⟨by omega, by omega⟩ [0] 24 ⟨rfl, rfl, rfl, ⟨Or.inl rfl, trivial⟩⟩ (fun h => nomatch h) (Nat.le_of_ble_eq_true rfl) ⟨⟨Or.inr (by first | exact ⟨rfl, pR_B _ (by decide)⟩ | exact ⟨rfl, uR_B (by decide) (by decide)⟩), Or.inr rfl, Or.inr trivial, Or.inr trivial, Or.inr trivial, Or.inr trivial, Or.inr trivial, Or.inr trivial, Or.inr trivial, Or.inr trivial, Or.inr trivial, Or.inr trivial, Or.inr trivial, Or.inr trivial, Or.inr trivial, Or.inr trivial, Or.inr trivial, Or.inr trivial, Or.inr trivial, Or.inr trivial, Or.inr trivial, Or.inr trivial, Or.inr rfl, Or.inr trivial, trivial⟩, rfl, rfl, rfl, Nat.le_of_ble_eq_true rfl⟩ rfl rfl dX1_heavy_12 (fun r_12 w_12 hp => ?_) (fun E_ w_ hx => by obtain ⟨rfl, hb, rfl⟩ := hx; exact zx_pub F rfl E hno j 22 23 hj hP rfl rfl (Nat.le_of_ble_eq_true rfl) (Nat.le_of_ble_eq_true rfl) (Nat.le_of_ble_eq_true rfl) _ rfl ⟨rfl, trivial, trivial, trivial, trivial, trivial, trivial, trivial, trivial, trivial, trivial, trivial, trivial, trivial, trivial, trivial, trivial, trivial, trivial, trivial, trivial, trivial⟩ (Nat.le_of_ble_eq_true rfl) (by omega) (by omega) (⟨rfl, trivial, rfl⟩))
  exact nomatch hp.2.1
end C9ya
