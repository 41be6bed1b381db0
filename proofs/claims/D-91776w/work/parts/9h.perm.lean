/-! rows of numbers, one behind the other -/
section C9h
def isP (n : Nat) (p : Nat → Nat) : Prop := (∀ i, i < n → p i < n) ∧ ∀ i j, i < n → j < n → p i = p j → i = j
def lxL (n : Nat) (p q : Nat → Nat) : Prop := ∃ i, i < n ∧ (∀ k, k < i → p k = q k) ∧ p i < q i
def eqN (n : Nat) (p q : Nat → Nat) : Prop := ∀ k, k < n → p k = q k
theorem first_diff (p q : Nat → Nat) : ∀ n, eqN n p q ∨ ∃ i, i < n ∧ (∀ k, k < i → p k = q k) ∧ p i ≠ q i
  | 0 => Or.inl fun k hk => absurd hk (by omega)
  | n + 1 => by
    rcases first_diff p q n with h | ⟨i, h1, h2⟩
    · by_cases e : p n = q n
      · refine Or.inl fun k hk => ?_
        by_cases z : k = n
        · rw [z]; exact e
        · exact h k (by omega)
      · exact Or.inr ⟨n, by omega, h, e⟩
    · exact Or.inr ⟨i, by omega, h2⟩
theorem lxL_tri (n : Nat) (p q : Nat → Nat) : eqN n p q ∨ lxL n p q ∨ lxL n q p := by
  rcases first_diff p q n with h | ⟨i, h1, h2, h3⟩
  · exact Or.inl h
  · by_cases z : p i < q i
    · exact Or.inr (Or.inl ⟨i, h1, h2, z⟩)
    · exact Or.inr (Or.inr ⟨i, h1, fun k hk => (h2 k hk).symm, by omega⟩)
theorem lxL_irr {n : Nat} {p : Nat → Nat} : ¬ lxL n p p := fun ⟨i, _, _, h⟩ => Nat.lt_irrefl _ h
theorem lxL_tr {n : Nat} {p q r : Nat → Nat} (h1 : lxL n p q) (h2 : lxL n q r) : lxL n p r := by
  obtain ⟨i, i1, i2, i3⟩ := h1
  obtain ⟨j, j1, j2, j3⟩ := h2
  by_cases z : i < j
  · exact ⟨i, i1, fun k hk => (i2 k hk).trans (j2 k (by omega)), by rw [← j2 i z]; exact i3⟩
  · by_cases z2 : i = j
    · subst z2; exact ⟨i, i1, fun k hk => (i2 k hk).trans (j2 k hk), by omega⟩
    · exact ⟨j, j1, fun k hk => (i2 k (by omega)).trans (j2 k hk), by rw [i2 j (by omega)]; exact j3⟩
theorem lxL_cong {n : Nat} {p p' q q' : Nat → Nat} (h1 : eqN n p p') (h2 : eqN n q q') (h : lxL n p q) : lxL n p' q' := by
  obtain ⟨i, i1, i2, i3⟩ := h
  exact ⟨i, i1, fun k hk => by rw [← h1 k (by omega), ← h2 k (by omega)]; exact i2 k hk, by rw [← h1 i i1, ← h2 i i1]; exact i3⟩
theorem isP_cong {n : Nat} {p q : Nat → Nat} (e : eqN n p q) (h : isP n p) : isP n q := ⟨fun i hi => by rw [← e i hi]; exact h.1 i hi, fun i j hi hj z => h.2 i j hi hj (by rw [e i hi, e j hj]; exact z)⟩
theorem isP_id (n : Nat) : isP n (fun i => i) := ⟨fun _ h => h, fun _ _ _ _ h => h⟩
theorem isP_sur {n : Nat} {p : Nat → Nat} (h : isP n p) {v : Nat} (hv : v < n) : ∃ i, i < n ∧ p i = v := by
  refine Classical.byContradiction fun hn => ?_
  have := fb_holes n (n + 1) (fun i => if i = n then v else p i) (fun i hi => by
    show (if i = n then v else p i) < n
    split
    · exact hv
    · exact h.1 i (by omega)) (fun i j hij hj => by
    show (if i = n then v else p i) ≠ (if j = n then v else p j)
    rw [if_neg (by omega)]
    split
    · exact fun z => hn ⟨i, by omega, z⟩
    · exact fun z => by have := h.2 i j (by omega) (by omega) z; omega)
  omega
/-- behind the same beginning: what comes next is one of the rest -/
theorem isP_rest {n i : Nat} {p q : Nat → Nat} (hp : isP n p) (hq : isP n q) (hi : i < n) (he : ∀ k, k < i → p k = q k) : ∃ m, i ≤ m ∧ m < n ∧ q i = p m := by
  obtain ⟨m, m1, m2⟩ := isP_sur hp (hq.1 i hi)
  refine ⟨m, Nat.le_of_not_lt fun z => ?_, m1, m2.symm⟩
  have := hq.2 m i (by omega) hi (by rw [← he m z]; exact m2)
  omega
theorem lx_id {n : Nat} {q : Nat → Nat} (hq : isP n q) : eqN n (fun i => i) q ∨ lxL n (fun i => i) q := by
  rcases lxL_tri n (fun i => i) q with h | h | ⟨i, i1, i2, i3⟩
  · exact Or.inl h
  · exact Or.inr h
  · obtain ⟨m, m1, m2, m3⟩ := isP_rest (isP_id n) hq i1 (fun k hk => (i2 k hk).symm)
    have e1 : q i = m := m3
    have e2 : q i < i := i3
    omega
/-- the next row: i from behind the first that is less than the one behind it, j the last that is greater than it -/
def nxR (n i j : Nat) (p : Nat → Nat) : Nat → Nat := fun k => if k < i then p k else if k = i then p j else if n + i - k = j then p i else p (n + i - k)
abbrev nxH (n i j : Nat) (p : Nat → Nat) : Prop := i < j ∧ j < n ∧ p i < p (i + 1) ∧ (∀ k, i < k → k + 1 < n → p (k + 1) < p k) ∧ p i < p j ∧ ∀ k, j < k → k < n → p k < p i
theorem dsc {n i : Nat} {p : Nat → Nat} (h : ∀ k, i < k → k + 1 < n → p (k + 1) < p k) {x : Nat} (hx : i < x) : ∀ d, x + d < n → p (x + d) ≤ p x
  | 0, _ => Nat.le_refl _
  | d + 1, hd => by
    have h1 := dsc h hx d (by omega)
    have h2 := h (x + d) (by omega) (by omega)
    rw [show x + (d + 1) = x + d + 1 by omega]
    omega
theorem nxR_P {n i j : Nat} {p : Nat → Nat} (h : nxH n i j p) (hp : isP n p) : isP n (nxR n i j p) := by
  obtain ⟨h1, h2, -⟩ := h
  refine ⟨fun k hk => ?_, fun k l hk hl e => ?_⟩
  · unfold nxR
    split
    · exact hp.1 k hk
    · split
      · exact hp.1 j h2
      · split
        · exact hp.1 i (by omega)
        · exact hp.1 _ (by omega)
  · unfold nxR at e
    have inj := hp.2
    by_cases a1 : k < i
    · rw [if_pos a1] at e
      by_cases b1 : l < i
      · rw [if_pos b1] at e; exact inj k l hk hl e
      · rw [if_neg b1] at e
        by_cases b2 : l = i
        · rw [if_pos b2] at e; have := inj k j hk h2 e; omega
        · rw [if_neg b2] at e
          by_cases b3 : n + i - l = j
          · rw [if_pos b3] at e; have := inj k i hk (by omega) e; omega
          · rw [if_neg b3] at e; have := inj k _ hk (by omega) e; omega
    · rw [if_neg a1] at e
      by_cases a2 : k = i
      · rw [if_pos a2] at e
        by_cases b1 : l < i
        · rw [if_pos b1] at e; have := inj j l h2 hl e; omega
        · rw [if_neg b1] at e
          by_cases b2 : l = i
          · omega
          · rw [if_neg b2] at e
            by_cases b3 : n + i - l = j
            · rw [if_pos b3] at e; have := inj j i h2 (by omega) e; omega
            · rw [if_neg b3] at e; have := inj j _ h2 (by omega) e; omega
      · rw [if_neg a2] at e
        by_cases a3 : n + i - k = j
        · rw [if_pos a3] at e
          by_cases b1 : l < i
          · rw [if_pos b1] at e; have := inj i l (by omega) hl e; omega
          · rw [if_neg b1] at e
            by_cases b2 : l = i
            · rw [if_pos b2] at e; have := inj i j (by omega) h2 e; omega
            · rw [if_neg b2] at e
              by_cases b3 : n + i - l = j
              · omega
              · rw [if_neg b3] at e; have := inj i _ (by omega) (by omega) e; omega
        · rw [if_neg a3] at e
          by_cases b1 : l < i
          · rw [if_pos b1] at e; have := inj _ l (by omega) hl e; omega
          · rw [if_neg b1] at e
            by_cases b2 : l = i
            · rw [if_pos b2] at e; have := inj _ j (by omega) h2 e; omega
            · rw [if_neg b2] at e
              by_cases b3 : n + i - l = j
              · rw [if_pos b3] at e; have := inj _ i (by omega) (by omega) e; omega
              · rw [if_neg b3] at e; have := inj _ _ (by omega) (by omega) e; omega
theorem nxR_lt {n i j : Nat} {p : Nat → Nat} (h : nxH n i j p) : lxL n p (nxR n i j p) := by
  obtain ⟨h1, h2, h3, h4, h5, h6⟩ := h
  refine ⟨i, by omega, fun k hk => ?_, ?_⟩
  · unfold nxR; rw [if_pos hk]
  · unfold nxR; rw [if_neg (by omega), if_pos rfl]; exact h5
/-- its end goes up -/
theorem nxR_up {n i j : Nat} {p : Nat → Nat} (h : nxH n i j p) {k : Nat} (hk : i < k) (hk2 : k + 1 < n) : nxR n i j p k < nxR n i j p (k + 1) := by
  obtain ⟨h1, h2, h3, h4, h5, h6⟩ := h
  have eqk : ∀ x, i < x → nxR n i j p x = if n + i - x = j then p i else p (n + i - x) := fun x hx => by
    unfold nxR; rw [if_neg (by omega), if_neg (by omega)]
  rw [eqk k hk, eqk (k + 1) (by omega)]
  by_cases a : n + i - k = j
  · rw [if_pos a, if_neg (by omega)]
    have := dsc h4 (x := n + i - (k + 1)) (by omega) 1 (by omega)
    rw [show n + i - (k + 1) + 1 = j by omega] at this
    omega
  · rw [if_neg a]
    by_cases b : n + i - (k + 1) = j
    · rw [if_pos b]
      exact h6 _ (by omega) (by omega)
    · rw [if_neg b]
      have := h4 (n + i - (k + 1)) (by omega) (by omega)
      rw [show n + i - (k + 1) + 1 = n + i - k by omega] at this
      exact this
theorem asc {n i : Nat} {q : Nat → Nat} (h : ∀ k, i < k → k + 1 < n → q k < q (k + 1)) {x : Nat} (hx : i < x) : ∀ d, x + (d + 1) < n → q x < q (x + (d + 1))
  | 0, hd => h x hx hd
  | d + 1, hd => by
    have h1 := asc h hx d (by omega)
    have h2 := h (x + (d + 1)) (by omega) (by omega)
    rw [show x + (d + 1 + 1) = x + (d + 1) + 1 by omega]
    omega
theorem nxR_next {n i j : Nat} {p q : Nat → Nat} (h : nxH n i j p) (hp : isP n p) (hq : isP n q) (hl : lxL n p q) : eqN n (nxR n i j p) q ∨ lxL n (nxR n i j p) q := by
  have hnp := nxR_P h hp
  have hup := fun k => nxR_up h (k := k)
  obtain ⟨h1, h2, h3, h4, h5, h6⟩ := h
  obtain ⟨i0, i1, i2, i3⟩ := hl
  obtain ⟨m, m1, m2, m3⟩ := isP_rest hp hq i1 i2
  have eqp : ∀ k, k < i → nxR n i j p k = p k := fun k hk => if_pos hk
  have eqi : nxR n i j p i = p j := by unfold nxR; rw [if_neg (by omega), if_pos rfl]
  rcases Nat.lt_trichotomy i0 i with z | z | z
  · exact Or.inr ⟨i0, i1, fun k hk => by rw [eqp k (by omega)]; exact i2 k hk, by rw [eqp i0 z]; exact i3⟩
  · subst z
    have hm : m ≤ j := Nat.le_of_not_lt fun y => by have := h6 m y m2; omega
    have hmi : m ≠ i0 := fun y => by rw [y] at m3; omega
    have hd := dsc h4 (x := m) (by omega) (j - m) (by omega)
    rw [show m + (j - m) = j by omega] at hd
    by_cases y : p j < p m
    · exact Or.inr ⟨i0, i1, fun k hk => by rw [eqp k hk]; exact i2 k hk, by rw [eqi, m3]; exact y⟩
    · have e : q i0 = p j := by omega
      rcases first_diff (nxR n i0 j p) q n with f | ⟨l, l1, l2, l3⟩
      · exact Or.inl f
      · have hli : i0 < l := by
          rcases Nat.lt_trichotomy l i0 with w | w | w
          · rw [eqp l w, i2 l w] at l3; exact absurd rfl l3
          · rw [w, eqi, e] at l3; exact absurd rfl l3
          · exact w
        obtain ⟨x, x1, x2, x3⟩ := isP_rest hnp hq l1 l2
        have hx : x ≠ l := fun w => by rw [w] at x3; exact l3 x3.symm
        have := asc hup hli (x - l - 1) (by omega)
        rw [show l + (x - l - 1 + 1) = x by omega] at this
        exact Or.inr ⟨l, l1, l2, by rw [x3]; exact this⟩
  · have := dsc h4 z (m - i0) (by omega)
    rw [show i0 + (m - i0) = m by omega] at this
    omega
/-- behind a row that only goes down comes none -/
theorem nxR_last {n : Nat} {p q : Nat → Nat} (h : ∀ k, k + 1 < n → p (k + 1) < p k) (hp : isP n p) (hq : isP n q) : ¬ lxL n p q := by
  rintro ⟨i0, i1, i2, i3⟩
  obtain ⟨m, m1, m2, m3⟩ := isP_rest hp hq i1 i2
  have d2 : ∀ d, i0 + d < n → p (i0 + d) ≤ p i0 := by
    intro d
    induction d with
    | zero => intro _; exact Nat.le_refl _
    | succ d ih =>
      intro hd
      have := ih (by omega)
      have := h (i0 + d) (by omega)
      rw [show i0 + (d + 1) = i0 + d + 1 by omega]
      omega
  have := d2 (m - i0) (by omega)
  rw [show i0 + (m - i0) = m by omega] at this
  omega
/-- a number that grows with the row -/
def lxV (n : Nat) (p : Nat → Nat) : Nat → Nat
  | 0 => 0
  | k + 1 => lxV n p k * n + p k
theorem lxV_lt {n : Nat} {p : Nat → Nat} (h : ∀ i, i < n → p i < n) : ∀ k, k ≤ n → lxV n p k < n ^ k
  | 0, _ => by rw [lxV, Nat.pow_zero]; omega
  | k + 1, hk => by
    have h1 := lxV_lt h k (by omega)
    have h2 := h k (by omega)
    have h3 : (lxV n p k + 1) * n ≤ n ^ k * n := Nat.mul_le_mul_right n h1
    rw [lxV, Nat.pow_succ]
    rw [Nat.add_mul] at h3
    omega
theorem lxV_mono {n : Nat} {p q : Nat → Nat} (hp : ∀ i, i < n → p i < n) (hq : ∀ i, i < n → q i < n) {i : Nat} (he : ∀ k, k < i → p k = q k) (hl : p i < q i) : ∀ k, k ≤ n → i < k → lxV n p k < lxV n q k
  | 0, _, h => by omega
  | k + 1, hk, h => by
    rw [lxV, lxV]
    have h2 := hp k (by omega)
    by_cases z : i = k
    · subst z
      have e : ∀ m, m ≤ i → lxV n p m = lxV n q m := by
        intro m
        induction m with
        | zero => intro _; rfl
        | succ m ih => intro hm; rw [lxV, lxV, ih (by omega), he m (by omega)]
      rw [e i (Nat.le_refl _)]; omega
    · have h1 := lxV_mono hp hq he hl k (by omega) (by omega)
      have h3 : (lxV n p k + 1) * n ≤ lxV n q k * n := Nat.mul_le_mul_right n h1
      rw [Nat.add_mul] at h3
      omega
theorem lxV_L {n : Nat} {p q : Nat → Nat} (hp : isP n p) (hq : isP n q) (h : lxL n p q) : lxV n p n < lxV n q n := by
  obtain ⟨i, i1, i2, i3⟩ := h
  exact lxV_mono hp.1 hq.1 i2 i3 n (Nat.le_refl _) i1
end C9h
