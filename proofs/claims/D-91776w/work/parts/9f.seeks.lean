/-! seek: the reference -/
section C9f
theorem gop_gop {kd a b s : Nat} (h : grok kd a b) (hs : s < a * b) : gop kd a b (gop kd a b s) = s := by
  have e := gth_gop (x := s) h hs (gop_lt h hs)
  rw [gth_op0 h hs, gth_0 h (gop_lt h (gop_lt h hs))] at e
  exact e
/-- each unit is a move with its opposite -/
theorem sku_is {kd a b : Nat} (h : grok kd a b) : ∀ k, k ≤ a * b → ∀ i, i < skn kd a b k → ∃ s, 1 ≤ s ∧ s < k ∧ s ≤ gop kd a b s ∧ skn kd a b s = i ∧ sku kd a b k i = b1 s ||| b1 (gop kd a b s)
  | 0, _, i, hi => by rw [skn] at hi; omega
  | k + 1, hk, i, hi => by
    rw [skn] at hi
    rw [sku]
    by_cases q : 1 ≤ k ∧ k ≤ gop kd a b k
    · rw [if_pos q] at hi ⊢
      by_cases e : i = skn kd a b k
      · exact ⟨k, q.1, by omega, q.2, e.symm, by rw [upd_at, if_pos e]⟩
      · obtain ⟨s, s1, s2, s3, s4, s5⟩ := sku_is h k (by omega) i (by omega)
        exact ⟨s, s1, by omega, s3, s4, by rw [upd_at, if_neg e]; exact s5⟩
    · rw [if_neg q] at hi ⊢
      obtain ⟨s, s1, s2, s3, s4, s5⟩ := sku_is h k (by omega) i hi
      exact ⟨s, s1, by omega, s3, s4, s5⟩
theorem sku_dis {kd a b : Nat} (h : grok kd a b) {i j t : Nat} (hi : i < skn kd a b (a * b)) (hj : j < skn kd a b (a * b)) (hij : i ≠ j) (h1 : bt (sku kd a b (a * b) i) t = true) (h2 : bt (sku kd a b (a * b) j) t = true) : False := by
  have h4 := h.2.2.2.1
  obtain ⟨s, s1, s2, s3, s4, s5⟩ := sku_is h _ (Nat.le_refl _) i hi
  obtain ⟨r, r1, r2, r3, r4, r5⟩ := sku_is h _ (Nat.le_refl _) j hj
  have g1 := gop_lt h s2
  have g2 := gop_lt h r2
  rw [s5, b_or, bt_b1 (by omega), bt_b1 (by omega)] at h1
  rw [r5, b_or, bt_b1 (by omega), bt_b1 (by omega)] at h2
  simp only [Bool.or_eq_true, decide_eq_true_eq] at h1 h2
  have hsr : s ≠ r := fun z => hij (by rw [← s4, ← r4, z])
  have i1 := gop_gop h s2
  have i2 := gop_gop h r2
  rcases h1 with h1 | h1 <;> rcases h2 with h2 | h2
  · omega
  · have e : s = gop kd a b r := by omega
    rw [e, i2] at s3
    omega
  · have e : r = gop kd a b s := by omega
    rw [e, i1] at r3
    omega
  · exact hsr (by rw [← i1, ← i2, ← h1, ← h2])
theorem sku_low {kd a b : Nat} (h : grok kd a b) {i t : Nat} (hi : i < skn kd a b (a * b)) (ht : bt (sku kd a b (a * b) i) t = true) : 1 ≤ t ∧ t < a * b := by
  have h4 := h.2.2.2.1
  obtain ⟨s, s1, s2, s3, s4, s5⟩ := sku_is h _ (Nat.le_refl _) i hi
  have g1 := gop_lt h s2
  have g2 := gop_1 h s2 s1
  rw [s5, b_or, bt_b1 (by omega), bt_b1 (by omega)] at ht
  simp only [Bool.or_eq_true, decide_eq_true_eq] at ht
  omega
/-- none of the units from k on is in it -/
def dsj (U : Nat → Int32) (uM k : Nat) (c : Int32) : Prop := ∀ j t, k ≤ j → j < uM → bt (U j) t = true → bt c t = false
theorem or_clr {c u : Int32} (h : ∀ t, bt u t = true → bt c t = false) : (c ||| u) &&& (u ^^^ (-1)) = c := b_ext fun t ht => by
  rw [b_and, b_or, bt_not _ ht]
  cases e : bt u t with
  | true => rw [h t e]; rfl
  | false => simp
def pwK : Nat → Nat
  | 0 => 1
  | k + 1 => 2 * pwK k + 1
theorem pwK_pos : ∀ k, 1 ≤ pwK k
  | 0 => Nat.le_refl _
  | k + 1 => by rw [pwK]; omega
/-- the search as it stands: what was tried, what is still to come -/
def skI (V : Int32 → Option (Nat × Nat)) (U : Nat → Int32) (uM most : Nat) (P : Int32 → Prop) (Bs : sBs) (c : Int32) (k n : Nat) (tk : Nat → Nat) (mv : Nat → Int32) : Prop :=
  isMn V P Bs ∧ (∀ x, P x → Tg U most uM 0 (nI 0) x) ∧ (∀ x, Tg U most (uM - k) k c x → Tg U most uM 0 (nI 0) x) ∧ (∀ i, i < n → tk i < uM ∧ mv (i + 1) = mv i ||| U (tk i) ∧ P (mv i) ∧ dsj U uM (tk i) (mv i) ∧ ∀ x, Tg U most (uM - (tk i + 1)) (tk i + 1) (mv i) x → Tg U most uM 0 (nI 0) x) ∧ c = mv n ∧ P c ∧ dsj U uM k c ∧
  (∀ x, Tg U most uM 0 (nI 0) x → P x ∨ Tg U most (uM - k) k c x ∨ ∃ i, i < n ∧ Tg U most (uM - (tk i + 1)) (tk i + 1) (mv i) x) ∧ n ≤ k ∧ (∀ i, i < n → i ≤ tk i) ∧ k ≤ uM
def skP (uM k n : Nat) (tk : Nat → Nat) : Nat := pwK (uM - k) + fb_sm (fun i => pwK (uM - (tk i + 1))) n
theorem skI.skip {V : Int32 → Option (Nat × Nat)} {U : Nat → Int32} {uM most : Nat} {P : Int32 → Prop} {Bs : sBs} {c : Int32} {k n : Nat} {tk : Nat → Nat} {mv : Nat → Int32} (h : skI V U uM most P Bs c k n tk mv) (hk : k < uM) (ho : ¬ pc32 (c ||| U k) ≤ most) : skI V U uM most P Bs c (k + 1) n tk mv ∧ skP uM (k + 1) n tk < skP uM k n tk := by
  obtain ⟨a1, a2, a3, a4, a5, a6, a7, a8, a9, a10, a11⟩ := h
  have e : uM - k = (uM - (k + 1)) + 1 := by omega
  have key : ∀ x, Tg U most (uM - k) k c x ↔ Tg U most (uM - (k + 1)) (k + 1) c x := fun x => by
    rw [e]
    exact ⟨fun z => z.elim id (fun y => absurd y.1 ho), Or.inl⟩
  refine ⟨⟨a1, a2, fun x hx => a3 x ((key x).mpr hx), a4, a5, a6, fun j t hj => a7 j t (by omega), fun x hx => ?_, by omega, a10, by omega⟩, ?_⟩
  · rcases a8 x hx with z | z | z
    · exact Or.inl z
    · exact Or.inr (Or.inl ((key x).mp z))
    · exact Or.inr (Or.inr z)
  · unfold skP
    rw [e, pwK]
    have := pwK_pos (uM - (k + 1))
    omega
theorem skI.push {V : Int32 → Option (Nat × Nat)} {U : Nat → Int32} {uM most : Nat} {P : Int32 → Prop} {Bs : sBs} {c : Int32} {k n : Nat} {tk : Nat → Nat} {mv : Nat → Int32} (h : skI V U uM most P Bs c k n tk mv) (hk : k < uM) (ho : pc32 (c ||| U k) ≤ most) (hU : ∀ i j t, i < uM → j < uM → i ≠ j → bt (U i) t = true → bt (U j) t = true → False) : skI V U uM most (fun x => P x ∨ x = c ||| U k) (lkF (V (c ||| U k)) (c ||| U k) Bs) (c ||| U k) (k + 1) (n + 1) (fun i => if i = n then k else tk i) (fun i => if i = n + 1 then c ||| U k else mv i) ∧ skP uM (k + 1) (n + 1) (fun i => if i = n then k else tk i) < skP uM k n tk := by
  obtain ⟨a1, a2, a3, a4, a5, a6, a7, a8, a9, a10, a11⟩ := h
  have e : uM - k = (uM - (k + 1)) + 1 := by omega
  have s1 : ∀ x, Tg U most (uM - (k + 1)) (k + 1) (c ||| U k) x → Tg U most uM 0 (nI 0) x := fun x hx => a3 x (by rw [e]; exact Or.inr ⟨ho, hx⟩)
  have s2 : ∀ x, Tg U most (uM - (k + 1)) (k + 1) c x → Tg U most uM 0 (nI 0) x := fun x hx => a3 x (by rw [e]; exact Or.inl hx)
  refine ⟨⟨isMn_put a1 _, fun x hx => ?_, s1, fun i hi => ?_, (if_pos rfl).symm, Or.inr rfl, fun j t hj hj2 hb => ?_, fun x hx => ?_, by omega, fun i hi => ?_, by omega⟩, ?_⟩
  · rcases hx with hx | rfl
    · exact a2 x hx
    · exact s1 _ (Tg_self _ _ _)
  · show (if i = n then k else tk i) < uM ∧ (if i + 1 = n + 1 then c ||| U k else mv (i + 1)) = (if i = n + 1 then c ||| U k else mv i) ||| U (if i = n then k else tk i) ∧ (P (if i = n + 1 then c ||| U k else mv i) ∨ _) ∧ dsj U uM (if i = n then k else tk i) (if i = n + 1 then c ||| U k else mv i) ∧ ∀ x, Tg U most (uM - ((if i = n then k else tk i) + 1)) ((if i = n then k else tk i) + 1) (if i = n + 1 then c ||| U k else mv i) x → _
    rw [if_neg (show ¬ i = n + 1 by omega)]
    by_cases q : i = n
    · subst q
      rw [if_pos rfl, if_pos rfl, ← a5]
      exact ⟨hk, rfl, Or.inl a6, a7, s2⟩
    · rw [if_neg q, if_neg (by omega)]
      obtain ⟨b1, b2, b3, b4, b5⟩ := a4 i (by omega)
      exact ⟨b1, b2, Or.inl b3, b4, b5⟩
  · rw [b_or, a7 j t (by omega) hj2 hb]
    cases q : bt (U k) t with
    | false => rfl
    | true => exact (hU k j t hk hj2 (by omega) q hb).elim
  · rcases a8 x hx with z | z | ⟨i, i1, i2⟩
    · exact Or.inl (Or.inl z)
    · rw [e] at z
      rcases z with z | z
      · refine Or.inr (Or.inr ⟨n, by omega, ?_⟩)
        show Tg U most (uM - ((if n = n then k else tk n) + 1)) ((if n = n then k else tk n) + 1) (if n = n + 1 then c ||| U k else mv n) x
        rw [if_pos rfl, if_neg (by omega), ← a5]; exact z
      · exact Or.inr (Or.inl z.2)
    · refine Or.inr (Or.inr ⟨i, by omega, ?_⟩)
      show Tg U most (uM - ((if i = n then k else tk i) + 1)) ((if i = n then k else tk i) + 1) (if i = n + 1 then c ||| U k else mv i) x
      rw [if_neg (by omega), if_neg (by omega)]; exact i2
  · show i ≤ (if i = n then k else tk i)
    split
    · omega
    · exact a10 i (by omega)
  · unfold skP
    have e2 : fb_sm (fun i => pwK (uM - ((if i = n then k else tk i) + 1))) (n + 1) = fb_sm (fun i => pwK (uM - (tk i + 1))) n + pwK (uM - (k + 1)) := by
      rw [fb_sm_succ]
      rw [if_pos rfl]
      congr 1
      exact fb_sm_cong fun i hi => by rw [if_neg (by omega)]
    rw [e2, e, pwK]
    omega
theorem skI.pop {V : Int32 → Option (Nat × Nat)} {U : Nat → Int32} {uM most : Nat} {P : Int32 → Prop} {Bs : sBs} {c : Int32} {k n : Nat} {tk : Nat → Nat} {mv : Nat → Int32} (h : skI V U uM most P Bs c k (n + 1) tk mv) (hk : ¬ k < uM) : skI V U uM most P Bs (mv n) (tk n + 1) n tk mv ∧ skP uM (tk n + 1) n tk < skP uM k (n + 1) tk ∧ c &&& (U (tk n) ^^^ (-1)) = mv n := by
  obtain ⟨a1, a2, a3, a4, a5, a6, a7, a8, a9, a10, a11⟩ := h
  obtain ⟨b1, b2, b3, b4, b5⟩ := a4 n (by omega)
  refine ⟨⟨a1, a2, b5, fun i hi => a4 i (by omega), rfl, b3, fun j t hj => b4 j t (by omega), fun x hx => ?_, by have := a10 n (by omega); omega, fun i hi => a10 i (by omega), by omega⟩, ?_, ?_⟩
  · rcases a8 x hx with z | z | ⟨i, i1, i2⟩
    · exact Or.inl z
    · rw [show uM - k = 0 by omega] at z
      have e : x = c := z
      rw [e]; exact Or.inl a6
    · by_cases q : i = n
      · subst q; exact Or.inr (Or.inl i2)
      · exact Or.inr (Or.inr ⟨i, by omega, i2⟩)
  · unfold skP
    rw [fb_sm_succ]
    have := pwK_pos (uM - k)
    omega
  · rw [a5, b2]
    exact or_clr (fun t ht => b4 (tk n) t (Nat.le_refl _) b1 ht)
theorem skI.done {V : Int32 → Option (Nat × Nat)} {U : Nat → Int32} {uM most : Nat} {P : Int32 → Prop} {Bs : sBs} {c : Int32} {k : Nat} {tk : Nat → Nat} {mv : Nat → Int32} (h : skI V U uM most P Bs c k 0 tk mv) (hk : ¬ k < uM) : isMn V (Tg U most uM 0 (nI 0)) Bs := by
  obtain ⟨a1, a2, a3, a4, a5, a6, a7, a8, a9, a10, a11⟩ := h
  refine isMn_congr a1 (fun x => ⟨a2 x, fun hx => ?_⟩)
  rcases a8 x hx with z | z | ⟨i, i1, i2⟩
  · exact z
  · rw [show uM - k = 0 by omega] at z
    have e : x = c := z
    rw [e]; exact a6
  · omega
end C9f
