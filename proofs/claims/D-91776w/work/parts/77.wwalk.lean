/-! Ways: one walk, its load and what follows what -/
section C77
def hv (n : Nat) (f : Nat → Int32) (a b : Nat) : Nat := lfp (hpm n f a b) n
theorem hpm_iff {n : Nat} {f : Nat → Int32} {a b c : Nat} : hpm n f a b c = true ↔ bt (f a) c = true ∧ dI (dst n f (allB n) c b) + nI 1 = dI (dst n f (allB n) a b) := by
  unfold hpm
  rw [Bool.and_eq_true, decide_eq_true_eq]
theorem hv_step {n d : Nat} {f : Nat → Int32} (h : nok n d f) (hc : conn n f (allB n)) {a b e : Nat} (ha : a < n) (hb : b < n) (he : dst n f (allB n) a b = some (e + 1)) : hv n f a b < n ∧ dst n f (allB n) (hv n f a b) b = some e ∧ bt (f a) (hv n f a b) = true := by
  have hn := h.n24
  have hab : ¬ a = b := fun q => by
    subst q
    rw [dst_self (al_t hn ha)] at he; cases he
  have hl := hpm_lt h hc ha hb hab
  have hp := (lsf_spec (hpm n f a b) n).2.1 hl
  obtain ⟨p1, p2⟩ := hpm_iff.mp hp
  refine ⟨hl, ?_, p1⟩
  obtain ⟨x, hx⟩ := hc (hv n f a b) b (al_t hn hl) (al_t hn hb)
  have e1 : dI (dst n f (allB n) (hv n f a b) b) + nI 1 = dI (dst n f (allB n) a b) := p2
  rw [hx, he] at e1
  have x1 := dst_lt hx (by omega)
  have x2 := dst_lt he (by omega)
  rw [show dI (some x) = nI x from rfl, show dI (some (e + 1)) = nI (e + 1) from rfl, nI_add, nI_eq (by omega) (by omega)] at e1
  rw [hx, show x = e by omega]
theorem hpI_hv {n d : Nat} {f : Nat → Int32} (h : nok n d f) (hc : conn n f (allB n)) {a b : Nat} (ha : a < n) (hb : b < n) (hab : ¬ a = b) : hpI n f a b = nI (hv n f a b) := by
  rw [hpI, if_neg hab, if_pos (hpm_lt h hc ha hb hab)]; rfl
def lwk (n : Nat) (f : Nat → Int32) (b : Nat) : Nat → Nat → (Nat → Nat → Int32) → Nat → Nat → Int32
  | 0, _, L => L
  | e + 1, a, L => lwk n f b e (hv n f a b) (zup2 L a (hv n f a b) (L a (hv n f a b) + nI 1))
def fwk (n : Nat) (f : Nat → Int32) (b : Nat) : Nat → Nat → (Nat → Nat → Int32) → Nat → Nat → Int32
  | 0, _, L => L
  | e + 1, a, L => fwk n f b e (hv n f a b) (if hv n f a b = b then L else zup2 L a (hv n f a b) (L a (hv n f a b) ||| b1 (hv n f (hv n f a b) b)))
abbrev wWw (Hm L Fo : Nat → Nat → Int32) (jo tr : Int32) : List zE := [zH, eWy 2 4 5 6 7 8 9 jo tr, zH, zH, zH, zMi 4 0 24 24 Hm, zMi 4 0 24 24 L, zMi 4 0 24 24 Fo, zH, zH]
theorem c_wwalk (n d : Nat) (f : Nat → Int32) (jo tr : Int32) (Hm L Fo : Nat → Nat → Int32) (a b e : Nat) (h : nok n d f) (hc : conn n f (allB n)) (ha : a < n) (hb : b < n) (he : dst n f (allB n) a b = some e) (hH : ∀ x y, x < n → y < n → ¬ x = y → Hm x y = nI (hv n f x y)) :
    zCtr yX13_walk cX13_walk 5 none 0 0 0 [zr 1 0, zi (nI a), zi (nI b)] (wWw Hm L Fo jo tr) (fun r w => r = none ∧ w = wWw Hm (lwk n f b e a L) (fwk n f b e a Fo) jo tr) zNx := by
  refine z_start (by decide) [some (zr 1 0), some (zi (nI a)), some (zi (nI b)), none, none] rfl (fun _ => Nat.le_of_ble_eq_true rfl) (fun _ => rfl) (fun X F E hno hin => ?_)
  have hn := h.n24
  have loop : ∀ (m x : Nat) (at_ : Nat) (L1 F1 : Nat → Nat → Int32), x < m → at_ < n → dst n f (allB n) at_ b = some x → lwk n f b x at_ L1 = lwk n f b e a L → fwk n f b x at_ F1 = fwk n f b e a Fo → Z X [some (zr 1 0), some (zi (nI a)), some (zi (nI b)), some (zi (nI at_)), none] [] (wWw Hm L1 F1 jo tr) 0 0 2 := by
    intro m
    induction m with
    | zero => intro x at_ L1 F1 hm; omega
    | succ m ih =>
      intro x at_ L1 F1 hm hat hx hl hf
      rcases x with _ | x
      ·
       have e0 : at_ = b := ((dst_PP (al_t hn hat) (al_lt hn) (by omega)).mp hx).1.1
       refine z_iload_n F dX13_walk_2 rfl ?_
       refine z_iload_n F dX13_walk_3 rfl ?_
       refine z_icmp_eqN F (by omega) (by omega) (tgt := 71) dX13_walk_4 (by decide) (fun c_4 => ?_) (fun c_4 => ?_)
       · exact z_vret F E rfl dX13_walk_71 (by omega) (by omega) (⟨rfl, by rw [← hl, ← hf]; rfl⟩)
       · exact absurd c_4 (by omega)
      obtain ⟨s1, s2, s3⟩ := hv_step h hc hat hb hx
      have hab : ¬ at_ = b := fun q => by
        subst q
        rw [dst_self (al_t hn hat)] at hx; cases hx
      have g1 := hH at_ b hat hb hab
      have g2 : ¬ hv n f at_ b = b → Hm (hv n f at_ b) b = nI (hv n f (hv n f at_ b) b) := fun q => hH _ b s1 hb q
      have g3 : ¬ hv n f at_ b = b → hv n f (hv n f at_ b) b < n := fun q => hpm_lt h hc s1 hb q
      refine z_iload_n F dX13_walk_2 rfl ?_
      refine z_iload_n F dX13_walk_3 rfl ?_
      refine z_icmp_eqN F (by omega) (by omega) (tgt := 71) dX13_walk_4 (by decide) (fun c_4 => ?_) (fun c_4 => ?_)
      · exact absurd c_4 (by omega)
      · refine z_aload_n F dX13_walk_7 rfl ?_
        refine z_get F zC13 (f := 3) rfl (Nat.le_of_ble_eq_true rfl) q1321 rfl dX13_walk_8 ?_
        refine z_iload_n F dX13_walk_11 rfl ?_
        refine z_aaldMN F rfl (Or.inl rfl) (Nat.le_of_ble_eq_true rfl) (by omega) dX13_walk_12 ?_
        refine z_iload_n F dX13_walk_13 rfl ?_
        refine z_ialdMN F rfl (by omega) (Nat.le_of_ble_eq_true rfl) (by omega) rfl dX13_walk_14 ?_
        refine z_ieq (g1) ?_
        refine z_istore F dX13_walk_15 (Nat.le_of_ble_eq_true rfl) ?_
        refine z_leq (L' := [_, _, _, _, _]) rfl ?_
        refine z_aload_n F dX13_walk_17 rfl ?_
        refine z_get F zC13 (f := 4) rfl (Nat.le_of_ble_eq_true rfl) q1323 rfl dX13_walk_18 ?_
        refine z_iload_n F dX13_walk_21 rfl ?_
        refine z_aaldMN F rfl (Or.inl rfl) (Nat.le_of_ble_eq_true rfl) (by omega) dX13_walk_22 ?_
        refine z_iload F dX13_walk_23 rfl ?_
        refine z_dup2 F dX13_walk_25 rfl rfl ?_
        refine z_ialdMN F rfl (by omega) (Nat.le_of_ble_eq_true rfl) (by omega) rfl dX13_walk_26 ?_
        refine z_iconst F (nI 1) dX13_walk_27 rfl ?_
        refine z_iadd F dX13_walk_28 ?_
        refine z_iastMN F rfl (by omega) (Nat.le_of_ble_eq_true rfl) (by omega) dX13_walk_29 ?_
        refine z_weq (w' := [_, _, _, _, _, _, _, _, _, _]) rfl ?_
        refine z_iload F dX13_walk_30 rfl ?_
        refine z_iload_n F dX13_walk_32 rfl ?_
        refine z_icmp_eqN F (by omega) (by omega) (tgt := 59) dX13_walk_33 (by decide) (fun c_33 => ?_) (fun c_33 => ?_)
        · refine z_aload_n F dX13_walk_59 rfl ?_
          refine z_get F zC13 (f := 3) rfl (Nat.le_of_ble_eq_true rfl) q1321 rfl dX13_walk_60 ?_
          refine z_iload_n F dX13_walk_63 rfl ?_
          refine z_aaldMN F rfl (Or.inl rfl) (Nat.le_of_ble_eq_true rfl) (by omega) dX13_walk_64 ?_
          refine z_iload_n F dX13_walk_65 rfl ?_
          refine z_ialdMN F rfl (by omega) (Nat.le_of_ble_eq_true rfl) (by omega) rfl dX13_walk_66 ?_
          refine z_ieq (g1) ?_
          refine z_istore_n F dX13_walk_67 (Nat.le_of_ble_eq_true rfl) ?_
          refine z_leq (L' := [_, _, _, _, _]) rfl ?_
          refine z_goto F (tgt := 2) dX13_walk_68 (by decide) ?_
          refine z_loc _ ?_ (ih x (hv n f at_ b) _ _ (by omega) s1 s2 hl (by rw [← hf, fwk, if_pos c_33]))
          exact ⟨rfl, rfl, rfl, rfl, trivial⟩
        · refine z_aload_n F dX13_walk_36 rfl ?_
          refine z_get F zC13 (f := 5) rfl (Nat.le_of_ble_eq_true rfl) q1325 rfl dX13_walk_37 ?_
          refine z_iload_n F dX13_walk_40 rfl ?_
          refine z_aaldMN F rfl (Or.inl rfl) (Nat.le_of_ble_eq_true rfl) (by omega) dX13_walk_41 ?_
          refine z_iload F dX13_walk_42 rfl ?_
          refine z_dup2 F dX13_walk_44 rfl rfl ?_
          refine z_ialdMN F rfl (by omega) (Nat.le_of_ble_eq_true rfl) (by omega) rfl dX13_walk_45 ?_
          refine z_iconst F (nI 1) dX13_walk_46 rfl ?_
          refine z_aload_n F dX13_walk_47 rfl ?_
          refine z_get F zC13 (f := 3) rfl (Nat.le_of_ble_eq_true rfl) q1321 rfl dX13_walk_48 ?_
          refine z_iload F dX13_walk_51 rfl ?_
          refine z_aaldMN F rfl (Or.inl rfl) (Nat.le_of_ble_eq_true rfl) (by omega) dX13_walk_53 ?_
          refine z_iload_n F dX13_walk_54 rfl ?_
          refine z_ialdMN F rfl (by omega) (Nat.le_of_ble_eq_true rfl) (by omega) rfl dX13_walk_55 ?_
          refine z_ieq (g2 c_33) ?_
          refine z_ishl F dX13_walk_56 ?_
          refine z_ior F dX13_walk_57 ?_
          refine z_iastMN F rfl (by omega) (Nat.le_of_ble_eq_true rfl) (by omega) dX13_walk_58 ?_
          refine z_weq (w' := [_, _, _, _, _, _, _, _, _, _]) rfl ?_
          refine z_aload_n F dX13_walk_59 rfl ?_
          refine z_get F zC13 (f := 3) rfl (Nat.le_of_ble_eq_true rfl) q1321 rfl dX13_walk_60 ?_
          refine z_iload_n F dX13_walk_63 rfl ?_
          refine z_aaldMN F rfl (Or.inl rfl) (Nat.le_of_ble_eq_true rfl) (by omega) dX13_walk_64 ?_
          refine z_iload_n F dX13_walk_65 rfl ?_
          refine z_ialdMN F rfl (by omega) (Nat.le_of_ble_eq_true rfl) (by omega) rfl dX13_walk_66 ?_
          refine z_ieq (g1) ?_
          refine z_istore_n F dX13_walk_67 (Nat.le_of_ble_eq_true rfl) ?_
          refine z_leq (L' := [_, _, _, _, _]) rfl ?_
          refine z_goto F (tgt := 2) dX13_walk_68 (by decide) ?_
          refine z_loc _ ?_ (ih x (hv n f at_ b) _ _ (by omega) s1 s2 hl (by rw [← hf, fwk, if_neg c_33]; rfl))
          exact ⟨rfl, rfl, rfl, rfl, trivial⟩
  refine z_iload_n F dX13_walk_0 rfl ?_
  refine z_istore_n F dX13_walk_1 (Nat.le_of_ble_eq_true rfl) ?_
  refine z_leq (L' := [_, _, _, _, _]) rfl ?_
  exact loop (e + 1) e a L Fo (by omega) ha he rfl rfl
end C77
