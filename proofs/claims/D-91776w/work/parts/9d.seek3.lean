/-! seek: the best of many, in any order -/
section C9d
def Tg (U : Nat → Int32) (most : Nat) : Nat → Nat → Int32 → Int32 → Prop
  | 0, _, m, c => c = m
  | k + 1, u, m, c => Tg U most k (u + 1) m c ∨ (pc32 (m ||| U u) ≤ most ∧ Tg U most k (u + 1) (m ||| U u) c)
theorem Tg_self {U : Nat → Int32} {most : Nat} : ∀ k u m, Tg U most k u m m
  | 0, _, _ => rfl
  | k + 1, u, m => Or.inl (Tg_self k (u + 1) m)
def isMn (V : Int32 → Option (Nat × Nat)) (T : Int32 → Prop) (B : sBs) : Prop := (∀ c, T c → ∀ f s, V c = some (f, s) → ∃ m f0 s0, B = some (m, f0, s0) ∧ ¬ kyN f s c < kyN f0 s0 m) ∧ ∀ m f0 s0, B = some (m, f0, s0) → T m ∧ V m = some (f0, s0)
theorem isMn_none (V : Int32 → Option (Nat × Nat)) : isMn V (fun _ => False) none := ⟨fun _ h => h.elim, fun _ _ _ h => by cases h⟩
theorem isMn_congr {V : Int32 → Option (Nat × Nat)} {T T' : Int32 → Prop} {B : sBs} (h : isMn V T B) (e : ∀ c, T c ↔ T' c) : isMn V T' B := ⟨fun c hc => h.1 c ((e c).mpr hc), fun m f s hb => ⟨(e m).mp (h.2 m f s hb).1, (h.2 m f s hb).2⟩⟩
theorem isMn_put {V : Int32 → Option (Nat × Nat)} {T : Int32 → Prop} {B : sBs} (h : isMn V T B) (c : Int32) : isMn V (fun x => T x ∨ x = c) (lkF (V c) c B) := by
  cases hv : V c with
  | none =>
    show isMn V _ B
    refine ⟨fun x hx f s hs => ?_, fun m f s hb => ⟨Or.inl (h.2 m f s hb).1, (h.2 m f s hb).2⟩⟩
    rcases hx with hx | rfl
    · exact h.1 x hx f s hs
    · rw [hv] at hs; cases hs
  | some v =>
    obtain ⟨f, s⟩ := v
    rcases B with _ | ⟨m, f0, s0⟩
    · show isMn V _ (some (c, f, s))
      refine ⟨fun x hx f' s' hs => ?_, fun m f' s' hb => by cases hb; exact ⟨Or.inr rfl, hv⟩⟩
      rcases hx with hx | rfl
      · obtain ⟨m, f0, s0, e, _⟩ := h.1 x hx f' s' hs
        cases e
      · rw [hv] at hs; cases hs
        exact ⟨x, f, s, rfl, Nat.lt_irrefl _⟩
    · show isMn V _ (if kyN f s c < kyN f0 s0 m then some (c, f, s) else some (m, f0, s0))
      obtain ⟨b1, b2⟩ := h.2 m f0 s0 rfl
      by_cases q : kyN f s c < kyN f0 s0 m
      · rw [if_pos q]
        refine ⟨fun x hx f' s' hs => ⟨c, f, s, rfl, ?_⟩, fun m f' s' hb => by cases hb; exact ⟨Or.inr rfl, hv⟩⟩
        rcases hx with hx | rfl
        · obtain ⟨m', f1, s1, e, e2⟩ := h.1 x hx f' s' hs
          cases e; omega
        · rw [hv] at hs; cases hs; omega
      · rw [if_neg q]
        refine ⟨fun x hx f' s' hs => ?_, fun m' f' s' hb => by cases hb; exact ⟨Or.inl b1, b2⟩⟩
        rcases hx with hx | rfl
        · exact h.1 x hx f' s' hs
        · rw [hv] at hs; cases hs
          exact ⟨m, f0, s0, rfl, q⟩
theorem isMn_one {V : Int32 → Option (Nat × Nat)} {T : Int32 → Prop} {B B' : sBs} (hT : ∀ c, T c → ∃ j, j < 2 ^ 31 ∧ c = nI j) (h : isMn V T B) (h' : isMn V T B') : B = B' := by
  rcases B with _ | ⟨m, f, s⟩
  · rcases B' with _ | ⟨m', f', s'⟩
    · rfl
    · obtain ⟨b1, b2⟩ := h'.2 m' f' s' rfl
      obtain ⟨_, _, _, e, _⟩ := h.1 m' b1 f' s' b2
      cases e
  · obtain ⟨b1, b2⟩ := h.2 m f s rfl
    obtain ⟨m', f', s', e, e2⟩ := h'.1 m b1 f s b2
    subst e
    obtain ⟨b3, b4⟩ := h'.2 m' f' s' rfl
    obtain ⟨m2, f2, s2, e3, e4⟩ := h.1 m' b3 f' s' b4
    cases e3
    obtain ⟨j, j1, rfl⟩ := hT m b1
    obtain ⟨j', j2, rfl⟩ := hT m' b3
    rw [kyN_n _ _ _ j1, kyN_n _ _ _ j2] at e2 e4
    have : j = j' := by omega
    subst this
    rw [b2] at b4
    cases b4
    rfl
theorem goF_mn {V : Int32 → Option (Nat × Nat)} {U : Nat → Int32} {most : Nat} : ∀ (k u : Nat) (c : Int32) (B : sBs) (T : Int32 → Prop), isMn V T B → isMn V (fun x => T x ∨ Tg U most k u c x) (goF V U most k u c B)
  | 0, u, c, B, T, h => isMn_put h c
  | k + 1, u, c, B, T, h => by
    have h1 := goF_mn (most := most) k (u + 1) c B T h (U := U)
    rw [goF]
    by_cases q : pc32 (c ||| U u) ≤ most
    · rw [if_pos q]
      refine isMn_congr (goF_mn k (u + 1) (c ||| U u) _ _ h1) (fun x => ?_)
      show (T x ∨ _) ∨ _ ↔ T x ∨ (_ ∨ (_ ∧ _))
      constructor
      · rintro ((z | z) | z)
        · exact Or.inl z
        · exact Or.inr (Or.inl z)
        · exact Or.inr (Or.inr ⟨q, z⟩)
      · rintro (z | z | z)
        · exact Or.inl (Or.inl z)
        · exact Or.inl (Or.inr z)
        · exact Or.inr z.2
    · rw [if_neg q]
      refine isMn_congr h1 (fun x => ?_)
      show T x ∨ _ ↔ T x ∨ (_ ∨ (_ ∧ _))
      constructor
      · rintro (z | z)
        · exact Or.inl z
        · exact Or.inr (Or.inl z)
      · rintro (z | z | z)
        · exact Or.inl z
        · exact Or.inr z
        · exact absurd z.1 q
theorem Tg_bits {U : Nat → Int32} {most n : Nat} (hU : ∀ i t, bt (U i) t = true → t < n) : ∀ (k u : Nat) (m c : Int32), (∀ i, bt m i = true → i < n) → Tg U most k u m c → ∀ i, bt c i = true → i < n
  | 0, u, m, c, hm, h, i, hi => by
    have e : c = m := h
    rw [e] at hi; exact hm i hi
  | k + 1, u, m, c, hm, h, i, hi => by
    rcases h with h | ⟨_, h⟩
    · exact Tg_bits hU k (u + 1) m c hm h i hi
    · refine Tg_bits hU k (u + 1) (m ||| U u) c (fun i hi => ?_) h i hi
      rw [b_or, Bool.or_eq_true] at hi
      exact hi.elim (hm i) (hU u i)
/-- a whole row at once -/
theorem bLv.step {E : Nat → Nat → Prop} {s c : Nat} {D : Nat → Option Nat} (h : bLv E s c D) (hmx : ∀ t k, D t = some k → k ≤ c) {r : Nat → Bool} (hr : ∀ t, r t = true ↔ D t = none ∧ ∃ p, D p = some c ∧ E p t) : bLv E s (c + 1) (fun t => if r t = true then some (c + 1) else D t) ∧ ∀ t k, (if r t = true then some (c + 1) else D t) = some k → k ≤ c + 1 := by
  have up : ∀ t k, (if r t = true then some (c + 1) else D t) = some k → k ≤ c + 1 := fun t k hk => by
    by_cases q : r t = true
    · rw [if_pos q] at hk; cases hk; omega
    · rw [if_neg q] at hk; have := hmx t k hk; omega
  have hs : ¬ r s = true := fun z => by
    have := ((hr s).mp z).1
    rw [h.st] at this; cases this
  refine ⟨⟨?_, fun t k hk => ?_, fun p k t hp hk he => ?_, fun t k hk => by have := up t k hk; omega⟩, up⟩
  · show (if r s = true then _ else _) = _
    rw [if_neg hs]; exact h.st
  · replace hk : (if r t = true then some (c + 1) else D t) = some k := hk
    by_cases q : r t = true
    · rw [if_pos q] at hk; cases hk
      obtain ⟨h1, p, h2, h3⟩ := (hr t).mp q
      refine ⟨⟨p, (h.sd p c h2).1, h3⟩, fun j hj hw => ?_⟩
      obtain ⟨k, k1, _⟩ := h.all j t hw (by omega)
      rw [h1] at k1; cases k1
    · rw [if_neg q] at hk; exact h.sd t k hk
  · replace hp : (if r p = true then some (c + 1) else D p) = some k := hp
    show ∃ j, (if r t = true then some (c + 1) else D t) = some j
    by_cases q : r t = true
    · exact ⟨c + 1, if_pos q⟩
    · rw [if_neg q]
      by_cases q2 : r p = true
      · rw [if_pos q2] at hp; cases hp; omega
      · rw [if_neg q2] at hp
        by_cases e : k = c
        · subst e
          cases hD : D t with
          | some j => exact ⟨j, rfl⟩
          | none => exact absurd ((hr t).mpr ⟨hD, p, hp, he⟩) q
        · exact h.cl p k t hp (by omega) he
def lvv (c : Nat) (o : Option Nat) : Nat := match o with
  | none => 0
  | some k => if k < c then k else 0
def smL (c : Nat) (D : Nat → Option Nat) (n : Nat) : Nat := fb_sm (fun t => lvv c (D t)) n
theorem smL_step {c : Nat} {D D' : Nat → Option Nat} {p : Nat → Bool} : ∀ n, (∀ t, t < n → lvv (c + 1) (D' t) = lvv c (D t) + if p t then c else 0) → smL (c + 1) D' n = smL c D n + c * fb_ct p n
  | 0, _ => by show 0 = 0 + c * 0; omega
  | n + 1, h => by
    have ih := smL_step n (fun t ht => h t (by omega))
    have h1 := h n (by omega)
    show smL (c + 1) D' n + lvv (c + 1) (D' n) = smL c D n + lvv c (D n) + c * (fb_ct p n + _)
    rw [ih, h1, Nat.mul_add]
    split <;> omega
theorem smL_end {c : Nat} {D : Nat → Option Nat} (h : ∀ t k, D t = some k → k < c) (n : Nat) : smL c D n = smD D n := fb_sm_cong fun t _ => by
  cases e : D t with
  | none => rfl
  | some k => show (if k < c then k else 0) = k; rw [if_pos (h t k e)]
end C9d
