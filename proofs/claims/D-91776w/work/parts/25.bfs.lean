/-! spreading from a knot: rings of bits -/
def allB (n : Nat) : Int32 := b1 n - nI 1
theorem bt_allB {n i : Nat} (hn : n ≤ 24) : bt (allB n) i = decide (i < n) := by
  rcases Nat.lt_or_ge i 32 with h | h
  · exact (by decide +kernel : ∀ n, n < 25 → ∀ i, i < 32 → bt (allB n) i = decide (i < n)) n (by omega) i h
  · rw [b_big h, decide_eq_false (by omega)]
/-- all neighbours of those of the first m knots that are in S -/
def nbk (f : Nat → Int32) (S : Int32) : Nat → Int32
  | 0 => nI 0
  | k + 1 => if bt S k then nbk f S k ||| f k else nbk f S k
theorem bt_nbk (f : Nat → Int32) (S : Int32) (i : Nat) : ∀ m, (bt (nbk f S m) i = true ↔ ∃ k, k < m ∧ bt S k = true ∧ bt (f k) i = true)
  | 0 => by simp only [nbk]; rw [show bt (nI 0) i = false from b_0 i]; simp
  | m + 1 => by
    have ih := bt_nbk f S i m
    simp only [nbk]
    split
    · rename_i h
      rw [b_or, Bool.or_eq_true, ih]
      constructor
      · rintro (⟨k, h1, h2, h3⟩ | h1)
        · exact ⟨k, by omega, h2, h3⟩
        · exact ⟨m, by omega, h, h1⟩
      · rintro ⟨k, h1, h2, h3⟩
        by_cases q : k = m
        · subst q; exact Or.inr h3
        · exact Or.inl ⟨k, by omega, h2, h3⟩
    · rename_i h
      rw [ih]
      constructor
      · rintro ⟨k, h1, h2, h3⟩
        exact ⟨k, by omega, h2, h3⟩
      · rintro ⟨k, h1, h2, h3⟩
        by_cases q : k = m
        · subst q; exact absurd h2 h
        · exact ⟨k, by omega, h2, h3⟩
theorem nbk_cong {f g : Nat → Int32} {S : Int32} : ∀ {m : Nat}, (∀ k, k < m → f k = g k) → nbk f S m = nbk g S m
  | 0, _ => rfl
  | m + 1, h => by simp only [nbk, nbk_cong (m := m) (fun k hk => h k (by omega)), h m (by omega)]
/-- the ring d knots away, and what was seen so far -/
def frs (n : Nat) (f : Nat → Int32) (st : Int32) (s : Nat) : Nat → Int32 × Int32
  | 0 => (b1 s, b1 s)
  | d + 1 => ((nbk f (frs n f st s d).1 n &&& st) &&& ((frs n f st s d).2 ^^^ (-1)), (frs n f st s d).2 ||| ((nbk f (frs n f st s d).1 n &&& st) &&& ((frs n f st s d).2 ^^^ (-1))))
def fr (n : Nat) (f : Nat → Int32) (st : Int32) (s d : Nat) : Int32 := (frs n f st s d).1
def sn (n : Nat) (f : Nat → Int32) (st : Int32) (s d : Nat) : Int32 := (frs n f st s d).2
section BFS
variable {n : Nat} {f : Nat → Int32} {st : Int32} {s : Nat}
theorem fr_succ (d : Nat) : fr n f st s (d + 1) = (nbk f (fr n f st s d) n &&& st) &&& (sn n f st s d ^^^ (-1)) := rfl
theorem sn_succ (d : Nat) : sn n f st s (d + 1) = sn n f st s d ||| fr n f st s (d + 1) := rfl
theorem bt_fr_succ {d i : Nat} (hi : i < 32) : bt (fr n f st s (d + 1)) i = true ↔ ((∃ k, k < n ∧ bt (fr n f st s d) k = true ∧ bt (f k) i = true) ∧ bt st i = true) ∧ bt (sn n f st s d) i = false := by
  rw [fr_succ, b_and, b_and, bt_not _ hi, Bool.and_eq_true, Bool.and_eq_true, bt_nbk]
  simp
theorem bt_sn {d i : Nat} (hi : i < 32) : bt (sn n f st s d) i = true ↔ ∃ e, e ≤ d ∧ bt (fr n f st s e) i = true := by
  induction d with
  | zero =>
    constructor
    · exact fun h => ⟨0, Nat.le_refl _, h⟩
    · rintro ⟨e, h, h1⟩
      obtain rfl : e = 0 := by omega
      exact h1
  | succ d ih =>
    rw [sn_succ, b_or, Bool.or_eq_true, ih]
    constructor
    · rintro (⟨e, h1, h2⟩ | h)
      · exact ⟨e, by omega, h2⟩
      · exact ⟨d + 1, Nat.le_refl _, h⟩
    · rintro ⟨e, h1, h2⟩
      by_cases q : e = d + 1
      · subst q; exact Or.inr h2
      · exact Or.inl ⟨e, by omega, h2⟩
theorem fr_one {d e i : Nat} (hi : i < 32) (h1 : bt (fr n f st s d) i = true) (h2 : bt (fr n f st s e) i = true) : d = e := by
  have key : ∀ d e, d < e → bt (fr n f st s d) i = true → bt (fr n f st s e) i = true → False := fun d e hlt a b => by
    obtain ⟨e', rfl⟩ : ∃ e', e = e' + 1 := ⟨e - 1, by omega⟩
    have c := ((bt_fr_succ hi).mp b).2
    rw [(bt_sn hi).mpr ⟨d, by omega, a⟩] at c
    cases c
  rcases Nat.lt_trichotomy d e with q | q | q
  · exact (key d e q h1 h2).elim
  · exact q
  · exact (key e d q h2 h1).elim
theorem fr_stop {d : Nat} (h : fr n f st s d = nI 0) : ∀ e, d ≤ e → fr n f st s e = nI 0 := by
  intro e he
  induction e with
  | zero => obtain rfl : d = 0 := by omega
            exact h
  | succ e ih =>
    by_cases q : d = e + 1
    · subst q; exact h
    · have h1 := ih (by omega)
      refine bt_zero.mpr fun i hi => ?_
      cases hb : bt (fr n f st s (e + 1)) i with
      | false => rfl
      | true =>
        obtain ⟨⟨⟨k, -, h2, -⟩, -⟩, -⟩ := (bt_fr_succ hi).mp hb
        rw [h1, show bt (nI 0) k = false from b_0 k] at h2
        cases h2
theorem sn_grow {d : Nat} (h : ¬ fr n f st s (d + 1) = nI 0) : pc32 (sn n f st s d) < pc32 (sn n f st s (d + 1)) := by
  obtain ⟨i, hi, h1, -⟩ := exists_low (x := fr n f st s (d + 1)) h
  have hz := ((bt_fr_succ hi).mp h1).2
  have e1 : fb_ct (fun k => if k = i then true else bt (sn n f st s d) k) 32 ≤ pc32 (sn n f st s (d + 1)) := by
    refine fb_ct_sub fun k hk h2 => ?_
    rw [sn_succ, b_or]
    by_cases q : k = i
    · subst q; rw [h1, Bool.or_true]
    · rw [if_neg q] at h2; rw [h2, Bool.true_or]
  have e2 := fb_ct_upd (bt (sn n f st s d)) true hi
  rw [hz] at e2
  simp only [Bool.false_eq_true, if_false, if_true, Nat.add_zero] at e2
  unfold pc32 at e1 ⊢
  omega
/-- a ring that isn't empty is less than 32 away -/
theorem fr_far (hs : s < 32) {d : Nat} (h : ¬ fr n f st s d = nI 0) : d < pc32 (sn n f st s d) := by
  induction d with
  | zero =>
    refine fb_ct_pos.mpr ⟨s, hs, ?_⟩
    show bt (b1 s) s = true
    rw [bt_b1 hs]; simp
  | succ d ih =>
    have h0 : ¬ fr n f st s d = nI 0 := fun q => h (fr_stop q _ (by omega))
    have := ih h0
    have := sn_grow h
    omega
theorem fr_far32 (hs : s < 32) {d : Nat} (h : ¬ fr n f st s d = nI 0) : d < 32 := Nat.lt_of_lt_of_le (fr_far hs h) (pc32_le _)
theorem fr_in {d i : Nat} (hi : i < 32) (hsn : s < n) (hst : ∀ i, i < 32 → bt st i = true → i < n) (hs : s < 32) (h : bt (fr n f st s d) i = true) : i < n := by
  cases d with
  | zero =>
    have : bt (b1 s) i = true := h
    rw [bt_b1 hs] at this
    simp at this
    omega
  | succ d => exact hst i hi ((bt_fr_succ hi).mp h).1.2
/-- how far a knot is, if less than m -/
def dsm (n : Nat) (f : Nat → Int32) (st : Int32) (s k : Nat) : Nat → Option Nat
  | 0 => none
  | m + 1 => if bt (fr n f st s m) k then some m else dsm n f st s k m
def dst (n : Nat) (f : Nat → Int32) (st : Int32) (s k : Nat) : Option Nat := dsm n f st s k 32
def dI (o : Option Nat) : Int32 := match o with
  | none => -1
  | some d => nI d
theorem dsm_some {k m d : Nat} (hk : k < 32) : dsm n f st s k m = some d ↔ d < m ∧ bt (fr n f st s d) k = true := by
  induction m with
  | zero => simp [dsm]
  | succ m ih =>
    unfold dsm
    split
    · rename_i h
      constructor
      · intro e; cases e; exact ⟨by omega, h⟩
      · rintro ⟨h1, h2⟩; rw [fr_one hk h2 h]
    · rename_i h
      rw [ih]
      constructor
      · rintro ⟨h1, h2⟩; exact ⟨by omega, h2⟩
      · rintro ⟨h1, h2⟩
        by_cases q : d = m
        · subst q; exact absurd h2 h
        · exact ⟨by omega, h2⟩
theorem dst_some {k d : Nat} (hk : k < 32) (hs : s < 32) : dst n f st s k = some d ↔ bt (fr n f st s d) k = true := by
  unfold dst
  rw [dsm_some hk]
  constructor
  · exact fun h => h.2
  · intro h
    refine ⟨fr_far32 (n := n) (f := f) (st := st) hs fun q => ?_, h⟩
    rw [q, show bt (nI 0) k = false from b_0 k] at h
    cases h
theorem dsm_done {d : Nat} (h : fr n f st s d = nI 0) {k : Nat} (hk : k < 32) (hs : s < 32) (hd : d ≤ 32) : dsm n f st s k d = dst n f st s k := by
  cases hq : dst n f st s k with
  | none =>
    cases hq2 : dsm n f st s k d with
    | none => rfl
    | some e =>
      obtain ⟨h1, h2⟩ := (dsm_some hk).mp hq2
      rw [(dst_some hk hs).mpr h2] at hq
      cases hq
  | some e =>
    have h2 := (dst_some hk hs).mp hq
    refine (dsm_some hk).mpr ⟨Nat.lt_of_not_le fun q => ?_, h2⟩
    rw [fr_stop h e q, show bt (nI 0) k = false from b_0 k] at h2
    cases h2
theorem dst_lt {k d : Nat} (h : dst n f st s k = some d) (hk : k < 32) : d < 32 := ((dsm_some hk).mp h).1
theorem fr_cong {g : Nat → Int32} (h : ∀ k, k < n → f k = g k) (d : Nat) : frs n f st s d = frs n g st s d := by
  induction d with
  | zero => rfl
  | succ d ih => simp only [frs, ih, nbk_cong h]
theorem dst_cong {g : Nat → Int32} (h : ∀ k, k < n → f k = g k) (k : Nat) : dst n f st s k = dst n g st s k := by
  have : ∀ m, dsm n f st s k m = dsm n g st s k m := fun m => by
    induction m with
    | zero => rfl
    | succ m ih =>
      unfold dsm
      rw [ih, show fr n f st s m = fr n g st s m from congrArg Prod.fst (fr_cong h m)]
  exact this 32
end BFS
/-! walking over the bits of a set, lowest first -/
def upto (S : Int32) (j : Nat) (y : Int32) : Prop := ∀ i, i < 32 → bt y i = (bt S i && decide (j ≤ i))
theorem upto_0 (S : Int32) : upto S 0 S := fun i _ => by simp
theorem upto_low {S y : Int32} {j : Nat} (h : upto S j y) (hy : ¬ y = 0) : ∃ i, i < 32 ∧ j ≤ i ∧ bt S i = true ∧ (∀ k, j ≤ k → k < i → bt S k = false) ∧ bt y i = true ∧ (∀ k, k < i → bt y k = false) ∧ upto S (i + 1) (y &&& (y - nI 1)) ∧ pc32 (y &&& (y - nI 1)) < pc32 y := by
  obtain ⟨i, hi, h1, h0⟩ := exists_low hy
  have h2 := h i hi
  rw [h1] at h2
  have h3 : bt S i = true ∧ j ≤ i := by simpa using h2.symm
  refine ⟨i, hi, h3.2, h3.1, fun k a b => ?_, h1, h0, fun k hk => ?_, ?_⟩
  · have := h k (by omega)
    rw [h0 k b, decide_eq_true a] at this
    simpa using this.symm
  · rw [bt_low hi h1 h0 k, h k hk]
    by_cases q : k = i
    · subst q; simp
    · by_cases q2 : j ≤ k
      · by_cases q3 : i + 1 ≤ k
        · simp [q, q2, q3]
        · have := h k hk
          rw [h0 k (by omega), decide_eq_true q2] at this
          have e : bt S k = false := by simpa using this.symm
          simp [e]
      · have : ¬ i + 1 ≤ k := by omega
        simp [q2, this]
  · have := pc32_low hy
    omega
theorem upto_end {S : Int32} {j : Nat} (h : upto S j 0) : ∀ k, j ≤ k → k < 32 → bt S k = false := fun k a b => by
  have := h k b
  rw [show bt 0 k = false from b_0 k, decide_eq_true a] at this
  simpa using this.symm
theorem nbk_skip {f : Nat → Int32} {S : Int32} {j : Nat} : ∀ {m : Nat}, j ≤ m → (∀ k, j ≤ k → k < m → bt S k = false) → nbk f S m = nbk f S j
  | 0, h, _ => by obtain rfl : j = 0 := by omega
                  rfl
  | m + 1, h, h2 => by
    by_cases q : j = m + 1
    · subst q; rfl
    · rw [nbk, if_neg (by rw [h2 m (by omega) (by omega)]; decide)]
      exact nbk_skip (by omega) (fun k a b => h2 k a (by omega))
theorem ct_skip {p : Nat → Bool} {j : Nat} : ∀ {m : Nat}, j ≤ m → (∀ k, j ≤ k → k < m → p k = false) → fb_ct p m = fb_ct p j
  | 0, h, _ => by obtain rfl : j = 0 := by omega
                  rfl
  | m + 1, h, h2 => by
    by_cases q : j = m + 1
    · subst q; rfl
    · rw [fb_ct_succ, h2 m (by omega) (by omega)]
      exact ct_skip (by omega) (fun k a b => h2 k a (by omega))
theorem sn_stop {n : Nat} {f : Nat → Int32} {st : Int32} {s d : Nat} (h : fr n f st s d = nI 0) : ∀ e, d ≤ e → sn n f st s e = sn n f st s d := by
  intro e he
  induction e with
  | zero => obtain rfl : d = 0 := by omega
            rfl
  | succ e ih =>
    by_cases q : d = e + 1
    · subst q; rfl
    · rw [sn_succ, fr_stop h (e + 1) he, ih (by omega)]
      refine b_ext fun i _ => ?_
      rw [b_or, show bt (nI 0) i = false from b_0 i, Bool.or_false]
theorem sm_tail {g : Nat → Nat} {e : Nat} (h : ∀ i, e ≤ i → g i = 0) : ∀ {a : Nat}, e ≤ a → fb_sm g a = fb_sm g e
  | 0, h1 => by obtain rfl : e = 0 := by omega
                rfl
  | a + 1, h1 => by
    by_cases q : e = a + 1
    · subst q; rfl
    · rw [fb_sm_succ, h a (by omega), sm_tail h (by omega)]
      rfl
theorem pc32_0 : pc32 (nI 0) = 0 := fb_ct_zero.mpr fun k _ => b_0 k
theorem fr_0_ne {n : Nat} {f : Nat → Int32} {st : Int32} {s : Nat} (hs : s < 32) : ¬ fr n f st s 0 = nI 0 := fun q => by
  have h : bt (fr n f st s 0) s = true := by
    show bt (b1 s) s = true
    rw [bt_b1 hs]; simp
  rw [q, show bt (nI 0) s = false from b_0 s] at h
  cases h
/-- how far the farthest ring is -/
def eccm (n : Nat) (f : Nat → Int32) (st : Int32) (s : Nat) : Nat → Nat
  | 0 => 0
  | m + 1 => if fr n f st s m = nI 0 then eccm n f st s m else m
def ecc (n : Nat) (f : Nat → Int32) (st : Int32) (s : Nat) : Nat := eccm n f st s 32
theorem eccm_lt (n : Nat) (f : Nat → Int32) (st : Int32) (s : Nat) : ∀ m, eccm n f st s m < m + 1
  | 0 => by simp [eccm]
  | m + 1 => by
    unfold eccm
    have := eccm_lt n f st s m
    split <;> omega
theorem ecc_lt (n : Nat) (f : Nat → Int32) (st : Int32) (s : Nat) : ecc n f st s < 32 := by
  unfold ecc eccm
  have := eccm_lt n f st s 31
  split <;> omega
theorem ecc_of {n : Nat} {f : Nat → Int32} {st : Int32} {s T : Nat} (hs : s < 32) (h : ∀ e, ¬ fr n f st s e = nI 0 ↔ e ≤ T) : ecc n f st s = T := by
  have hT : T < 32 := fr_far32 (n := n) (f := f) (st := st) hs ((h T).mpr (Nat.le_refl _))
  have key : ∀ m, T < m → eccm n f st s m = T := by
    intro m
    induction m with
    | zero => intro q; omega
    | succ m ih =>
      intro q
      unfold eccm
      by_cases q2 : m = T
      · subst q2; rw [if_neg ((h m).mpr (Nat.le_refl _))]
      · rw [if_pos (Classical.byContradiction fun z => by have := (h m).mp z; omega)]
        exact ih (by omega)
  exact key 32 hT
theorem sn_all {n : Nat} {f : Nat → Int32} {st : Int32} {s k : Nat} (hk : k < 32) (hs : s < 32) : bt (sn n f st s 32) k = true ↔ ∃ e, dst n f st s k = some e := by
  rw [bt_sn hk]
  constructor
  · rintro ⟨e, -, h⟩; exact ⟨e, (dst_some hk hs).mpr h⟩
  · rintro ⟨e, h⟩; exact ⟨e, by have := dst_lt h hk; omega, (dst_some hk hs).mp h⟩
/-- Flood's answers -/
def cjn (n : Nat) (f : Nat → Int32) : Bool := decide (sn n f (allB n) 0 32 = allB n)
def cfa (n : Nat) (f : Nat → Int32) (st : Int32) : Nat → Option Nat
  | 0 => some 0
  | j + 1 => if bt st j then (match cfa n f st j with
    | none => none
    | some v => if sn n f st j 32 = st then some (max v (ecc n f st j)) else none) else cfa n f st j
def crs (n : Nat) (f : Nat → Int32) (st : Int32) (s : Nat) : Nat := fb_sm (fun e => e * pc32 (fr n f st s e)) 32
def csm (n : Nat) (f : Nat → Int32) : Nat := fb_sm (fun k => crs n f (allB n) k) n
def cfar (n : Nat) (f : Nat → Int32) (st : Int32) : Nat := match cfa n f st 32 with
  | none => 100
  | some v => v
def cpr (n : Nat) (f : Nat → Int32) : Nat := match cfa n f (allB n) 32 with
  | none => 1000000
  | some v => 1000 * v + csm n f / 2
theorem cfa_lt (n : Nat) (f : Nat → Int32) (st : Int32) : ∀ j v, cfa n f st j = some v → v < 32
  | 0, v, h => by cases h; decide
  | j + 1, v, h => by
    unfold cfa at h
    split at h
    · cases hq : cfa n f st j with
      | none => rw [hq] at h; cases h
      | some u =>
        rw [hq] at h
        simp only at h
        split at h
        · cases h
          have := cfa_lt n f st j u hq
          have := ecc_lt n f st j
          omega
        · cases h
    · exact cfa_lt n f st j v h
theorem cfa_skip {n : Nat} {f : Nat → Int32} {st : Int32} {j : Nat} : ∀ {m : Nat}, j ≤ m → (∀ k, j ≤ k → k < m → bt st k = false) → cfa n f st m = cfa n f st j
  | 0, h, _ => by obtain rfl : j = 0 := by omega
                  rfl
  | m + 1, h, h2 => by
    by_cases q : j = m + 1
    · subst q; rfl
    · rw [cfa, if_neg (by rw [h2 m (by omega) (by omega)]; decide)]
      exact cfa_skip (by omega) (fun k a b => h2 k a (by omega))
theorem cfa_none {n : Nat} {f : Nat → Int32} {st : Int32} {j : Nat} (h : cfa n f st j = none) : ∀ {m : Nat}, j ≤ m → cfa n f st m = none
  | 0, h1 => by obtain rfl : j = 0 := by omega
                exact h
  | m + 1, h1 => by
    by_cases q : j = m + 1
    · subst q; exact h
    · have := cfa_none h (m := m) (by omega)
      unfold cfa
      rw [this]
      split <;> rfl
theorem pc32_fr_le {n : Nat} {f : Nat → Int32} {st : Int32} {s e : Nat} : e * pc32 (fr n f st s e) ≤ 32 * e := by
  rw [Nat.mul_comm 32]; exact Nat.mul_le_mul_left _ (pc32_le _)
theorem crs_le (n : Nat) (f : Nat → Int32) (st : Int32) (s : Nat) : crs n f st s ≤ 32 * 1024 := by
  have := fb_sm_bound (f := fun e => e * pc32 (fr n f st s e)) (c := 1024) (n := 32) (fun k hk => by
    have := pc32_fr_le (n := n) (f := f) (st := st) (s := s) (e := k)
    omega)
  unfold crs; omega
theorem csm_le (n : Nat) (f : Nat → Int32) (m : Nat) : fb_sm (fun k => crs n f (allB n) k) m ≤ m * 32768 := fb_sm_bound fun k _ => crs_le n f _ k
