/-! Ways: the first step -/
section C76
theorem PP.back {f : Nat → Int32} {st : Int32} : ∀ {e a b : Nat}, PP f st (e + 1) a b → ∃ c, bt (f a) c = true ∧ PP f st e c b
  | 0, a, b, ⟨c, ⟨h1, h1'⟩, h2, h3⟩ => ⟨b, by rw [h1]; exact h2, rfl, h3⟩
  | e + 1, a, b, ⟨x, h1, h2, h3⟩ => by
    obtain ⟨c, q1, q2⟩ := PP.back h1
    exact ⟨c, q1, x, q2, h2, h3⟩
theorem hpm_ex {n d : Nat} {f : Nat → Int32} (h : nok n d f) (hc : conn n f (allB n)) {a b : Nat} (ha : a < n) (hb : b < n) (hab : ¬ a = b) : ∃ c, c < n ∧ hpm n f a b c = true := by
  have hn := h.n24
  have sa := al_t hn ha
  have sb := al_t hn hb
  obtain ⟨e, he⟩ := hc a b sa sb
  have hp := (dst_PP sa (al_lt hn) (by omega)).mp he
  cases e with
  | zero => exact absurd hp.1.1 hab
  | succ e =>
    obtain ⟨c, q1, q2⟩ := hp.1.back
    have sc := q2.inl
    have hcn := al_lt hn c sc
    have e2 : dst n f (allB n) c b = some e := (dst_PP sc (al_lt hn) (by omega)).mpr ⟨q2, fun x hx hq => hp.2 (x + 1) (by omega) (PP.front sa q1 hq)⟩
    refine ⟨c, hcn, ?_⟩
    unfold hpm
    rw [q1, he, e2]
    exact decide_eq_true (nI_add e 1)
theorem hpm_lt {n d : Nat} {f : Nat → Int32} (h : nok n d f) (hc : conn n f (allB n)) {a b : Nat} (ha : a < n) (hb : b < n) (hab : ¬ a = b) : lfp (hpm n f a b) n < n := by
  obtain ⟨c, h1, h2⟩ := hpm_ex h hc ha hb hab
  refine Nat.lt_of_not_le fun q => ?_
  have := (lsf_spec (hpm n f a b) n).2.2 c (by omega)
  rw [h2] at this; cases this
theorem hp_sub {x y : Int32} : x = y - nI 1 ↔ x + nI 1 = y := by
  constructor
  · rintro rfl
    rw [Int32.sub_eq_add_neg, Int32.add_assoc]
    rw [show -nI 1 + nI 1 = 0 from by decide, Int32.add_zero]
  · rintro rfl
    rw [Int32.sub_eq_add_neg, Int32.add_assoc]
    rw [show nI 1 + -nI 1 = 0 from by decide, Int32.add_zero]
abbrev eWy (x far hop load follow sends owner : Nat) (jo tr : Int32) : zE := zO 13 [zr x 0, zi jo, zr far 0, zr hop 0, zr load 0, zr follow 0, zr sends 0, zr owner 0, zi tr]
theorem c_wstep (n : Nat) (d jo tr : Int32) (f : Nat → Int32) (M : Nat → Nat → Int32) (a b : Nat) (hn : n ≤ 24) (ha : a < n) (hb : b < n) (hM : ∀ x k, x < n → k < n → M x k = dI (dst n f (allB n) x k)) (hlt : lfp (hpm n f a b) n < n) :
    zCtr yX13_step cX13_step 4 (some .int) 1 0 0 [zr 1 0, zi (nI a), zi (nI b)] [zH, eWy 2 4 5 6 7 8 9 jo tr, eNet 3 (nI n) d, zAi 0 24 f, zMi 4 0 24 24 M, zH, zH, zH, zH, zH] (fun r w => r = some (zi (nI (lfp (hpm n f a b) n))) ∧ w = [zH, eWy 2 4 5 6 7 8 9 jo tr, eNet 3 (nI n) d, zAi 0 24 f, zMi 4 0 24 24 M, zH, zH, zH, zH, zH]) zNx := by
  refine z_start (by decide) [some (zr 1 0), some (zi (nI a)), some (zi (nI b)), none] rfl (fun _ => Nat.le_of_ble_eq_true rfl) (fun _ => rfl) (fun X F E hno hin => ?_)
  obtain ⟨s1, s2, s3⟩ := lsf_spec (hpm n f a b) n
  have loop : ∀ (m c : Nat), n - c < m → c ≤ lfp (hpm n f a b) n → Z X [some (zr 1 0), some (zi (nI a)), some (zi (nI b)), some (zi (nI c))] [] [zH, eWy 2 4 5 6 7 8 9 jo tr, eNet 3 (nI n) d, zAi 0 24 f, zMi 4 0 24 24 M, zH, zH, zH, zH, zH] 0 0 2 := by
    intro m
    induction m with
    | zero => intro c hm; omega
    | succ m ih =>
      intro c hm hc
      have hno : hpm n f a b c = false → c + 1 ≤ lfp (hpm n f a b) n := fun q => by
        refine Nat.lt_of_not_le fun q2 => ?_
        have := s2 hlt
        rw [show lfp (hpm n f a b) n = c by omega, q] at this; cases this
      have gc := hM c b (by omega) hb
      have gab := hM a b ha hb
      refine z_aload_n F dX13_step_2 rfl ?_
      refine z_get F zC13 (f := 0) rfl (Nat.le_of_ble_eq_true rfl) q1317 rfl dX13_step_3 ?_
      refine z_iload_n F dX13_step_6 rfl ?_
      refine z_iload_n F dX13_step_7 rfl ?_
      refine z_callV F (c_has (nI n) d f a c (by omega) (by omega)) 2 rfl (lw_V q1312 q508 q509 q116 q510) (by decide +kernel) ⟨Nat.le_of_ble_eq_true rfl, Nat.le_of_ble_eq_true rfl⟩ ⟨by omega, by omega⟩ [0, 2, 3] 10 ⟨rfl, rfl, rfl, ⟨Or.inl rfl, Or.inr rfl, Or.inr rfl, trivial⟩⟩ (fun h => nomatch h) (Nat.le_of_ble_eq_true rfl) ⟨⟨Or.inr trivial, Or.inr rfl, Or.inl rfl, Or.inl rfl, Or.inr trivial, Or.inr trivial, Or.inr trivial, Or.inr trivial, Or.inr trivial, Or.inr trivial, trivial⟩, rfl, rfl, rfl, Nat.le_of_ble_eq_true rfl⟩ rfl zC5 rfl rfl dX13_step_8 (fun r_8 w_8 hp => ?_) (fun _ _ h => h.elim)
      obtain ⟨rfl, rfl⟩ := hp
      refine z_weq (w' := [zH, zO _ [zr _ _, zi _, zr _ _, zr _ _, zr _ _, zr _ _, zr _ _, zr _ _, zi _], zO _ [zi _, zi _, zr _ _], zAi 0 24 _, zMi 4 0 24 24 _, zH, zH, zH, zH, zH]) rfl ?_
      refine z_seq (S' := zi _ :: _) rfl ?_
      refine z_if_eqB F (tgt := 35) dX13_step_11 (by decide) (fun c_11 => ?_) (fun c_11 => ?_)
      · refine z_iincN F 1 dX13_step_35 rfl rfl ?_
        refine z_leq (L' := [_, _, _, _]) rfl ?_
        refine z_goto F (tgt := 2) dX13_step_38 (by decide) ?_
        exact ih (c + 1) (by omega) (hno (by unfold hpm; rw [c_11]; rfl))
      · refine z_aload_n F dX13_step_14 rfl ?_
        refine z_get F zC13 (f := 2) rfl (Nat.le_of_ble_eq_true rfl) q1320 rfl dX13_step_15 ?_
        refine z_iload_n F dX13_step_18 rfl ?_
        refine z_aaldMN F rfl (Or.inl rfl) (Nat.le_of_ble_eq_true rfl) (by omega) dX13_step_19 ?_
        refine z_iload_n F dX13_step_20 rfl ?_
        refine z_ialdMN F rfl (by omega) (Nat.le_of_ble_eq_true rfl) (by omega) rfl dX13_step_21 ?_
        refine z_aload_n F dX13_step_22 rfl ?_
        refine z_get F zC13 (f := 2) rfl (Nat.le_of_ble_eq_true rfl) q1320 rfl dX13_step_23 ?_
        refine z_iload_n F dX13_step_26 rfl ?_
        refine z_aaldMN F rfl (Or.inl rfl) (Nat.le_of_ble_eq_true rfl) (by omega) dX13_step_27 ?_
        refine z_iload_n F dX13_step_28 rfl ?_
        refine z_ialdMN F rfl (by omega) (Nat.le_of_ble_eq_true rfl) (by omega) rfl dX13_step_29 ?_
        refine z_iconst F (nI 1) dX13_step_30 rfl ?_
        refine z_isub F dX13_step_31 ?_
        refine z_icmp_eq F (tgt := 41) dX13_step_32 (by decide) (fun c_32 => ?_) (fun c_32 => ?_)
        · refine z_iload_n F dX13_step_41 rfl ?_
          exact z_iret F E rfl dX13_step_42 (by omega) (by omega) (⟨by
  rw [gc, gab] at c_32
  rw [lsf_eq (p := hpm n f a b) (n := n) (j := c) (by omega) (by unfold hpm; rw [c_11, decide_eq_true (hp_sub.mp c_32)]; rfl) (fun c' hc' => s3 c' (by omega))], rfl⟩)
        · refine z_iincN F 1 dX13_step_35 rfl rfl ?_
          refine z_leq (L' := [_, _, _, _]) rfl ?_
          refine z_goto F (tgt := 2) dX13_step_38 (by decide) ?_
          exact ih (c + 1) (by omega) (hno (by
            rw [gc, gab] at c_32
            unfold hpm
            rw [c_11, decide_eq_false (fun z => c_32 (hp_sub.mpr z))]; rfl))
  refine z_iconst F (nI 0) dX13_step_0 rfl ?_
  refine z_istore_n F dX13_step_1 (Nat.le_of_ble_eq_true rfl) ?_
  refine z_leq (L' := [_, _, _, _]) rfl ?_
  exact loop (n + 1) 0 (by omega) (by omega)
end C76
