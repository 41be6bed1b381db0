/-! matchings: who gets a goal of its own -/
section C9w
abbrev mS (g : Nat → Nat → Bool) (S : Nat → Prop) (O : Nat → Option Nat) : Prop := (∀ t z, O t = some z → t < 24 ∧ g z t = true ∧ S z) ∧ (∀ t u z, O t = some z → O u = some z → t = u) ∧ ∀ z, S z → z < 24 ∧ ∃ t, O t = some z
def mA (g : Nat → Nat → Bool) (S : Nat → Prop) : Prop := ∃ O, mS g S O
theorem mS_cg {g : Nat → Nat → Bool} {S T : Nat → Prop} {O : Nat → Option Nat} (h : mS g S O) (e : ∀ z, S z ↔ T z) : mS g T O := ⟨fun t z q => ⟨(h.1 t z q).1, (h.1 t z q).2.1, (e z).mp (h.1 t z q).2.2⟩, h.2.1, fun z q => h.2.2 z ((e z).mpr q)⟩
abbrev hal (g : Nat → Nat → Bool) (O : Nat → Option Nat) (s : Nat) (R : Nat → Prop) : Prop := (∀ t, t < 24 → g s t = true → R t) ∧ ∀ t, R t → ∃ z, O t = some z ∧ ∀ u, u < 24 → g z u = true → R u
theorem hall {g : Nat → Nat → Bool} {S : Nat → Prop} {O : Nat → Option Nat} {s : Nat} {R : Nat → Prop} (h : mS g S O) (hs : ¬ S s) (hs2 : s < 24) (hh : hal g O s R) : ¬ mA g (fun z => S z ∨ z = s) := by
  rintro ⟨O', h'⟩
  have key : ∀ z, ∃ y, ((z = s ∨ ∃ t, R t ∧ O t = some z) → ∃ t, O' t = some z ∧ R t ∧ O t = some y) ∧ (¬ (z = s ∨ ∃ t, R t ∧ O t = some z) → y = z) := by
    intro z
    by_cases q : z = s ∨ ∃ t, R t ∧ O t = some z
    · have hz : S z ∨ z = s := q.elim Or.inr (fun ⟨t, _, ht⟩ => Or.inl (h.1 t z ht).2.2)
      obtain ⟨-, t, ht⟩ := h'.2.2 z hz
      obtain ⟨l1, l2, -⟩ := h'.1 t z ht
      have hR : R t := by
        rcases q with rfl | ⟨u, hu, hu2⟩
        · exact hh.1 t l1 l2
        · obtain ⟨z2, e1, e2⟩ := hh.2 u hu
          rw [hu2] at e1; cases e1
          exact e2 t l1 l2
      obtain ⟨y, hy, -⟩ := hh.2 t hR
      exact ⟨y, fun _ => ⟨t, ht, hR, hy⟩, fun z => absurd q z⟩
    · exact ⟨z, fun z => absurd z q, fun _ => rfl⟩
  obtain ⟨φ, hφ⟩ := Classical.axiomOfChoice key
  have hin : ∀ z, (z = s ∨ ∃ t, R t ∧ O t = some z) → ∃ t, R t ∧ O t = some (φ z) := fun z q => by
    obtain ⟨t, _, h2, h3⟩ := (hφ z).1 q
    exact ⟨t, h2, h3⟩
  have hb : ∀ i, i < 24 → φ i < 24 := fun i hi => by
    by_cases q : i = s ∨ ∃ t, R t ∧ O t = some i
    · obtain ⟨t, -, h3⟩ := hin i q
      exact (h.2.2 _ (h.1 t _ h3).2.2).1
    · rw [(hφ i).2 q]; exact hi
  have hij : ∀ i j, φ i = φ j → i = j := fun i j e => by
    by_cases q : i = s ∨ ∃ t, R t ∧ O t = some i
    · by_cases q2 : j = s ∨ ∃ t, R t ∧ O t = some j
      · obtain ⟨t, a1, _, a3⟩ := (hφ i).1 q
        obtain ⟨u, b1_, _, b3⟩ := (hφ j).1 q2
        rw [← e] at b3
        have := h.2.1 t u _ a3 b3
        subst this
        rw [a1] at b1_; cases b1_; rfl
      · refine absurd ?_ q2
        rw [← (hφ j).2 q2, ← e]
        exact Or.inr (hin i q)
    · by_cases q2 : j = s ∨ ∃ t, R t ∧ O t = some j
      · refine absurd ?_ q
        rw [← (hφ i).2 q, e]
        exact Or.inr (hin j q2)
      · rw [← (hφ i).2 q, e, (hφ j).2 q2]
  obtain ⟨i, hi, e⟩ := fb_onto (n := 24) (f := φ) hb (fun i j hi hj e => by have := hij i j e; omega) hs2
  by_cases q : i = s ∨ ∃ t, R t ∧ O t = some i
  · obtain ⟨t, -, h3⟩ := hin i q
    rw [e] at h3
    exact hs (h.1 t s h3).2.2
  · rw [(hφ i).2 q] at e
    exact q (Or.inl e)
/-- the greedy choice, sender by sender -/
def gS (g : Nat → Nat → Bool) : Nat → Nat → Prop
  | 0 => fun _ => False
  | k + 1 => fun z => gS g k z ∨ (z = k ∧ mA g (fun x => gS g k x ∨ x = k))
noncomputable def gN (g : Nat → Nat → Bool) : Nat → Nat
  | 0 => 0
  | k + 1 => gN g k + @ite Nat (mA g (fun x => gS g k x ∨ x = k)) (Classical.propDecidable _) 1 0
theorem gS_lt {g : Nat → Nat → Bool} : ∀ {k z}, gS g k z → z < k
  | 0, _, h => h.elim
  | k + 1, z, h => by
    rcases h with h | h
    · have := gS_lt h; omega
    · omega
theorem gN_yes {g : Nat → Nat → Bool} {k : Nat} {O : Nat → Option Nat} (h : mS g (fun x => gS g k x ∨ x = k) O) : gN g (k + 1) = gN g k + 1 ∧ mS g (gS g (k + 1)) O := by
  have hA : mA g (fun x => gS g k x ∨ x = k) := ⟨O, h⟩
  refine ⟨?_, mS_cg h fun z => ?_⟩
  · rw [gN, if_pos hA]
  · show _ ↔ gS g k z ∨ (z = k ∧ mA g (fun x => gS g k x ∨ x = k))
    exact ⟨fun q => q.elim Or.inl (fun e => Or.inr ⟨e, hA⟩), fun q => q.elim Or.inl (fun e => Or.inr e.1)⟩
theorem gN_no {g : Nat → Nat → Bool} {k : Nat} {O : Nat → Option Nat} (h : mS g (gS g k) O) (hA : ¬ mA g (fun x => gS g k x ∨ x = k)) : gN g (k + 1) = gN g k ∧ mS g (gS g (k + 1)) O := by
  refine ⟨?_, mS_cg h fun z => ?_⟩
  · rw [gN, if_neg hA]; rfl
  · show _ ↔ gS g k z ∨ (z = k ∧ mA g (fun x => gS g k x ∨ x = k))
    exact ⟨Or.inl, fun q => q.elim id (fun e => absurd e.2 hA)⟩
theorem mS_0 (g : Nat → Nat → Bool) : mS g (gS g 0) (fun _ => none) := ⟨fun t z e => (by cases e), fun t u z e => (by cases e), fun z e => e.elim⟩
theorem mA_cg {g g' : Nat → Nat → Bool} {S T : Nat → Prop} (e : ∀ z t, S z → t < 24 → g z t = g' z t) (e2 : ∀ z, S z ↔ T z) (h : mA g S) : mA g' T := by
  obtain ⟨O, h⟩ := h
  exact ⟨O, fun t z q => by
    obtain ⟨a, b, c⟩ := h.1 t z q
    exact ⟨a, by rw [← e z t c a]; exact b, (e2 z).mp c⟩, h.2.1, fun z q => h.2.2 z ((e2 z).mpr q)⟩
theorem gS_cg {g g' : Nat → Nat → Bool} : ∀ k, (∀ z t, z < k → t < 24 → g z t = g' z t) → gN g k = gN g' k ∧ ∀ z, gS g k z ↔ gS g' k z
  | 0, _ => ⟨rfl, fun _ => Iff.rfl⟩
  | k + 1, h => by
    obtain ⟨a, b⟩ := gS_cg k (fun z t hz ht => h z t (by omega) ht)
    have hk : ∀ z, (gS g k z ∨ z = k) → z < k + 1 := fun z q => by
      rcases q with q | q
      · have := gS_lt q; omega
      · omega
    have hk' : ∀ z, (gS g' k z ∨ z = k) → z < k + 1 := fun z q => by
      rcases q with q | q
      · have := gS_lt q; omega
      · omega
    have hm : mA g (fun x => gS g k x ∨ x = k) ↔ mA g' (fun x => gS g' k x ∨ x = k) := ⟨fun q => mA_cg (fun z t hz ht => h z t (hk z hz) ht) (fun z => or_congr (b z) Iff.rfl) q, fun q => mA_cg (fun z t hz ht => (h z t (hk' z hz) ht).symm) (fun z => or_congr (b z).symm Iff.rfl) q⟩
    refine ⟨?_, fun z => ?_⟩
    · rw [gN, gN, a]
      by_cases q : mA g (fun x => gS g k x ∨ x = k)
      · rw [if_pos q, if_pos (hm.mp q)]
      · rw [if_neg q, if_neg (fun z => q (hm.mpr z))]
    · show gS g k z ∨ (z = k ∧ _) ↔ gS g' k z ∨ (z = k ∧ _)
      exact or_congr (b z) (and_congr Iff.rfl hm)
theorem gN_le {g : Nat → Nat → Bool} (c : Nat → Nat) (hc : ∀ z t, t < 24 → g z t = true → 1 ≤ c z) : ∀ k, gN g k ≤ fb_sm c k
  | 0 => Nat.le_refl _
  | k + 1 => by
    have ih := gN_le c hc k
    rw [gN, fb_sm_succ]
    by_cases q : mA g (fun x => gS g k x ∨ x = k)
    · rw [if_pos q]
      obtain ⟨O, h⟩ := q
      obtain ⟨-, t, ht⟩ := h.2.2 k (Or.inr rfl)
      obtain ⟨l1, l2, -⟩ := h.1 t k ht
      have := hc k t l1 l2
      omega
    · rw [if_neg q]; omega
theorem gN_k {g : Nat → Nat → Bool} : ∀ k, gN g k ≤ k
  | 0 => Nat.le_refl _
  | k + 1 => by
    have ih := gN_k (g := g) k
    rw [gN]
    by_cases q : mA g (fun x => gS g k x ∨ x = k)
    · rw [if_pos q]; omega
    · rw [if_neg q]; omega
end C9w
