/-! the passes: what the last one says -/
section C84
theorem lkc_sub {n a b x y : Nat} {f : Nat → Int32} {s : LK} (h : (lkc n f a b s).1 x y = true) : s.1 x y = true := by
  unfold lkc at h
  by_cases q : s.1 a b = true
  · rw [if_pos q] at h
    have h' : zup2 s.1 a b (ldz n f s.1 a b) x y = true := h
    rw [zup2_pq] at h'
    by_cases q2 : x = a ∧ y = b
    · rw [q2.1, q2.2]; exact q
    · rw [if_neg q2] at h'; exact h'
  · rw [if_neg q] at h; exact h
theorem lkr_sub {n a x y : Nat} {f : Nat → Int32} {s : LK} : ∀ b, (lkr n f a s b).1 x y = true → s.1 x y = true
  | 0, h => h
  | b + 1, h => lkr_sub b (lkc_sub h)
theorem lka_sub {n x y : Nat} {f : Nat → Int32} {s : LK} : ∀ a, (lka n f s a).1 x y = true → s.1 x y = true
  | 0, h => h
  | a + 1, h => lka_sub a (lkr_sub n h)
def lkJ (n : Nat) (S : Nat → Nat → Bool) (a b : Nat) (s : LK) : Prop := s.2.1 = false → (∀ x y, s.1 x y = S x y) ∧ (s.2.2 = true ↔ ∃ x y, (x < a ∨ x = a ∧ y < b) ∧ x < n ∧ y < n ∧ S x y = true)
theorem lkJ_c {n a b : Nat} {f : Nat → Int32} {S : Nat → Nat → Bool} {s : LK} (h : lkJ n S a b s) (ha : a < n) (hb : b < n) : lkJ n S a (b + 1) (lkc n f a b s) := by
  unfold lkJ at h ⊢
  intro hc
  unfold lkc at hc ⊢
  by_cases q : s.1 a b = true
  · rw [if_pos q] at hc ⊢
    have hc' : (s.2.1 || !ldz n f s.1 a b) = false := hc
    rw [Bool.or_eq_false_iff] at hc'
    have hl : ldz n f s.1 a b = true := by simpa using hc'.2
    obtain ⟨h1, h2⟩ := h hc'.1
    have hq : S a b = true := by rw [← h1]; exact q
    refine ⟨fun x y => ?_, ?_⟩
    · show zup2 s.1 a b (ldz n f s.1 a b) x y = S x y
      rw [zup2_pq]
      by_cases q2 : x = a ∧ y = b
      · rw [if_pos q2, hl, q2.1, q2.2, hq]
      · rw [if_neg q2]; exact h1 x y
    · show (s.2.2 || ldz n f s.1 a b) = true ↔ _
      rw [hl, Bool.or_true]
      exact ⟨fun _ => ⟨a, b, Or.inr ⟨rfl, by omega⟩, ha, hb, hq⟩, fun _ => rfl⟩
  · rw [if_neg q] at hc ⊢
    obtain ⟨h1, h2⟩ := h hc
    refine ⟨h1, h2.trans ⟨?_, ?_⟩⟩
    · rintro ⟨x, y, e1, e2, e3, e4⟩
      exact ⟨x, y, by omega, e2, e3, e4⟩
    · rintro ⟨x, y, e1, e2, e3, e4⟩
      by_cases q2 : x = a ∧ y = b
      · rw [q2.1, q2.2, ← h1] at e4
        exact absurd e4 q
      · exact ⟨x, y, by omega, e2, e3, e4⟩
theorem lkJ_r {n a : Nat} {f : Nat → Int32} {S : Nat → Nat → Bool} {s : LK} (h : lkJ n S a 0 s) (ha : a < n) : ∀ b, b ≤ n → lkJ n S a b (lkr n f a s b)
  | 0, _ => h
  | b + 1, hb => lkJ_c (lkJ_r h ha b (by omega)) ha (by omega)
theorem lkJ_n {n a : Nat} {S : Nat → Nat → Bool} {s : LK} (h : lkJ n S a n s) : lkJ n S (a + 1) 0 s := by
  unfold lkJ at h ⊢
  intro hc
  obtain ⟨h1, h2⟩ := h hc
  refine ⟨h1, h2.trans ⟨?_, ?_⟩⟩
  · rintro ⟨x, y, e1, e2, e3, e4⟩
    exact ⟨x, y, by omega, e2, e3, e4⟩
  · rintro ⟨x, y, e1, e2, e3, e4⟩
    exact ⟨x, y, by omega, e2, e3, e4⟩
theorem lkJ_a {n : Nat} {f : Nat → Int32} {S : Nat → Nat → Bool} : ∀ a, a ≤ n → lkJ n S a 0 (lka n f (S, false, false) a)
  | 0, _ => fun _ => ⟨fun _ _ => rfl, fun h => (by cases h), fun ⟨x, y, e, _⟩ => (by omega)⟩
  | a + 1, ha => lkJ_n (lkJ_r (lkJ_a a (by omega)) (by omega) n (Nat.le_refl _))
theorem lk_any {n : Nat} {f : Nat → Int32} {S S2 : Nat → Nat → Bool} {an : Bool} (h : lka n f (S, false, false) n = (S2, false, an)) : (∀ x y, S2 x y = S x y) ∧ (an = true ↔ ∃ x y, x < n ∧ y < n ∧ S2 x y = true) := by
  have e := lkJ_a (n := n) (f := f) (S := S) n (Nat.le_refl _)
  rw [h] at e
  obtain ⟨h1, h2⟩ := e rfl
  refine ⟨h1, h2.trans ⟨?_, ?_⟩⟩
  · rintro ⟨x, y, e1, e2, e3, e4⟩
    exact ⟨x, y, e2, e3, (h1 x y).trans e4⟩
  · rintro ⟨x, y, e2, e3, e4⟩
    exact ⟨x, y, Or.inl e2, e2, e3, (h1 x y).symm.trans e4⟩
end C84
