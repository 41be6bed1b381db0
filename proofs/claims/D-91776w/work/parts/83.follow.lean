/-! what follows what -/
section C83
def flP (n : Nat) (f : Nat → Int32) (x y z : Nat) : Prop := ∃ t, t < n ∧ ¬ t = x ∧ ¬ t = y ∧ hv n f x t = y ∧ hv n f y t = z
theorem fw_bit {L : Nat → Nat → Int32} {a c k x y z : Nat} (hk : k < 32) : bt (zup2 L a c (L a c ||| b1 k) x y) z = (bt (L x y) z || (decide (x = a) && decide (y = c) && decide (z = k))) := by
  unfold zup2
  by_cases q : x = a
  · subst q
    rw [if_pos rfl]
    by_cases q2 : y = c
    · subst q2
      rw [if_pos rfl, bt_or1 _ hk, decide_eq_true rfl, decide_eq_true rfl]; rfl
    · rw [if_neg q2, decide_eq_false q2, Bool.and_false, Bool.false_and, Bool.or_false]
  · rw [if_neg q, decide_eq_false q, Bool.false_and, Bool.false_and, Bool.or_false]
theorem fw_sound {n d : Nat} {f : Nat → Int32} (h : nok n d f) (hc : conn n f (allB n)) {b : Nat} (hb : b < n) : ∀ (e a : Nat) (L : Nat → Nat → Int32), a < n → dst n f (allB n) a b = some e → ∀ x y z, bt (fwk n f b e a L x y) z = true → bt (L x y) z = true ∨ flP n f x y z := by
  intro e
  induction e with
  | zero => intro a L _ _ x y z q; exact Or.inl q
  | succ e ih =>
    intro a L ha he x y z q
    have hn := h.n24
    obtain ⟨s1, s2, s3⟩ := hv_step h hc ha hb he
    have hab : ¬ b = a := fun q => by
      subst q
      rw [dst_self (al_t hn ha)] at he; cases he
    rw [fwk] at q
    rcases ih (hv n f a b) _ s1 s2 x y z q with q1 | q1
    · by_cases q2 : hv n f a b = b
      · rw [if_pos q2] at q1; exact Or.inl q1
      · rw [if_neg q2, fw_bit (by have := hpm_lt h hc s1 hb q2; show hv n f (hv n f a b) b < 32; unfold hv at this ⊢; omega)] at q1
        rcases Bool.or_eq_true_iff.mp q1 with q3 | q3
        · exact Or.inl q3
        · simp only [Bool.and_eq_true, decide_eq_true_eq] at q3
          obtain ⟨⟨rfl, rfl⟩, rfl⟩ := q3
          exact Or.inr ⟨b, hb, hab, fun z => q2 z.symm, rfl, rfl⟩
    · exact Or.inr q1
theorem fw_mono {n d : Nat} {f : Nat → Int32} (h : nok n d f) (hc : conn n f (allB n)) {b : Nat} (hb : b < n) : ∀ (e a : Nat) (L : Nat → Nat → Int32), a < n → dst n f (allB n) a b = some e → ∀ x y z, bt (L x y) z = true → bt (fwk n f b e a L x y) z = true := by
  intro e
  induction e with
  | zero => intro a L _ _ x y z q; exact q
  | succ e ih =>
    intro a L ha he x y z q
    obtain ⟨s1, s2, s3⟩ := hv_step h hc ha hb he
    rw [fwk]
    refine ih (hv n f a b) _ s1 s2 x y z ?_
    by_cases q2 : hv n f a b = b
    · rw [if_pos q2]; exact q
    · rw [if_neg q2, fw_bit (by have hn := h.n24; have := hpm_lt h hc s1 hb q2; show hv n f (hv n f a b) b < 32; unfold hv at this ⊢; omega), q]; rfl
theorem fw_first {n d : Nat} {f : Nat → Int32} (h : nok n d f) (hc : conn n f (allB n)) {a b e : Nat} {L : Nat → Nat → Int32} (ha : a < n) (hb : b < n) (he : dst n f (allB n) a b = some e) (hab : ¬ b = a) (q2 : ¬ hv n f a b = b) : bt (fwk n f b e a L a (hv n f a b)) (hv n f (hv n f a b) b) = true := by
  have hn := h.n24
  cases e with
  | zero => exact absurd (((dst_PP (al_t hn ha) (al_lt hn) (by omega)).mp he).1.1).symm hab
  | succ e =>
    obtain ⟨s1, s2, s3⟩ := hv_step h hc ha hb he
    rw [fwk, if_neg q2]
    refine fw_mono h hc hb e (hv n f a b) _ s1 s2 _ _ _ ?_
    rw [fw_bit (by have := hpm_lt h hc s1 hb q2; show hv n f (hv n f a b) b < 32; unfold hv at this ⊢; omega), decide_eq_true rfl, decide_eq_true rfl, decide_eq_true rfl]
    exact Bool.or_true _
theorem fr_sound {n d : Nat} {f : Nat → Int32} (h : nok n d f) (hc : conn n f (allB n)) {a : Nat} (ha : a < n) {L : Nat → Nat → Int32} (hL : ∀ x y z, bt (L x y) z = true → flP n f x y z) : ∀ b, b ≤ n → ∀ x y z, bt (frow n f a L b x y) z = true → flP n f x y z
  | 0, _, x, y, z, q => hL x y z q
  | b + 1, hb, x, y, z, q => by
    rw [frow] at q
    rcases fw_sound h hc (show b < n by omega) _ a _ ha (dN_eq h.n24 hc ha (by omega)) x y z q with q1 | q1
    · exact fr_sound h hc ha hL b (by omega) x y z q1
    · exact q1
theorem fr_mono {n d : Nat} {f : Nat → Int32} (h : nok n d f) (hc : conn n f (allB n)) {a : Nat} (ha : a < n) {L : Nat → Nat → Int32} : ∀ b, b ≤ n → ∀ x y z, bt (L x y) z = true → bt (frow n f a L b x y) z = true
  | 0, _, x, y, z, q => q
  | b + 1, hb, x, y, z, q => fw_mono h hc (show b < n by omega) _ a _ ha (dN_eq h.n24 hc ha (by omega)) x y z (fr_mono h hc ha b (by omega) x y z q)
theorem fr_comp {n d : Nat} {f : Nat → Int32} (h : nok n d f) (hc : conn n f (allB n)) {a : Nat} (ha : a < n) {L : Nat → Nat → Int32} : ∀ b, b ≤ n → ∀ t, t < b → ¬ t = a → ¬ hv n f a t = t → bt (frow n f a L b a (hv n f a t)) (hv n f (hv n f a t) t) = true
  | 0, _, t, h1, _, _ => by omega
  | b + 1, hb, t, h1, h2, h3 => by
    rw [frow]
    by_cases q : t = b
    · subst q
      exact fw_first h hc ha (by omega) (dN_eq h.n24 hc ha (by omega)) h2 h3
    · exact fw_mono h hc (show b < n by omega) _ a _ ha (dN_eq h.n24 hc ha (by omega)) _ _ _ (fr_comp h hc ha b (by omega) t (by omega) h2 h3)
theorem fa_sound {n d : Nat} {f : Nat → Int32} (h : nok n d f) (hc : conn n f (allB n)) : ∀ a, a ≤ n → ∀ x y z, bt (fall n f a x y) z = true → flP n f x y z
  | 0, _, x, y, z, q => by rw [show fall n f 0 x y = 0 from rfl, b_0] at q; cases q
  | a + 1, ha, x, y, z, q => fr_sound h hc (show a < n by omega) (fa_sound h hc a (by omega)) n (Nat.le_refl _) x y z q
theorem fa_comp {n d : Nat} {f : Nat → Int32} (h : nok n d f) (hc : conn n f (allB n)) : ∀ a, a ≤ n → ∀ x y z, x < a → flP n f x y z → bt (fall n f a x y) z = true
  | 0, _, x, y, z, h1, _ => by omega
  | a + 1, ha, x, y, z, h1, h2 => by
    by_cases q : x = a
    · subst q
      obtain ⟨t, t1, t2, t3, rfl, rfl⟩ := h2
      exact fr_comp h hc (by omega) n (Nat.le_refl _) t t1 t2 (fun z => t3 z.symm)
    · exact fr_mono h hc (show a < n by omega) n (Nat.le_refl _) x y z (fa_comp h hc a (by omega) x y z (by omega) h2)
theorem fa_iff {n d : Nat} {f : Nat → Int32} (h : nok n d f) (hc : conn n f (allB n)) {x y z : Nat} (hx : x < n) : bt (fall n f n x y) z = true ↔ flP n f x y z := ⟨fa_sound h hc n (Nat.le_refl _) x y z, fa_comp h hc n (Nat.le_refl _) x y z hx⟩
end C83
