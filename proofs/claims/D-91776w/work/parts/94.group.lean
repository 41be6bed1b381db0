/-! groups: one thing and then another one -/
section C94
theorem amd {a i j : Nat} (hi : i < a) (hj : j < a) : (i + j) % a = if i + j < a then i + j else i + j - a := by
  by_cases q : i + j < a
  · rw [if_pos q, Nat.mod_eq_of_lt q]
  · rw [if_neg q, Nat.mod_eq_sub_mod (by omega), Nat.mod_eq_of_lt (by omega)]
theorem smd {a i j : Nat} (hi : i < a) (hj : j < a) : (i + a - j) % a = if j ≤ i then i - j else i + a - j := by
  by_cases q : j ≤ i
  · rw [if_pos q, Nat.mod_eq_sub_mod (by omega), Nat.mod_eq_of_lt (by omega)]; omega
  · rw [if_neg q, Nat.mod_eq_of_lt (by omega)]
theorem nmd {a i : Nat} (hi : i < a) : (a - i) % a = if i = 0 then 0 else a - i := by
  by_cases q : i = 0
  · rw [if_pos q, q, Nat.sub_zero, Nat.mod_self]
  · rw [if_neg q, Nat.mod_eq_of_lt (by omega)]
def grok (kd a b : Nat) : Prop := kd < 2 ∧ 1 ≤ a ∧ 1 ≤ b ∧ a * b ≤ 24 ∧ (kd = 1 → b = 2)
/-- of two with their halves -/
def gi (kd a i f j : Nat) : Nat := if kd = 0 then (i + j) % a else if f = 0 then (i + j) % a else (i + a - j) % a
def gth (kd a b x s : Nat) : Nat := gi kd a (x % a) (x / a) (s % a) + a * ((x / a + s / a) % b)
def goj (kd a g j : Nat) : Nat := if kd = 0 ∨ g = 0 then (a - j) % a else j
def gog (kd b g : Nat) : Nat := if kd = 0 ∨ g = 0 then (b - g) % b else g
def gop (kd a b s : Nat) : Nat := goj kd a (s / a) (s % a) + a * gog kd b (s / a)
theorem gi_lt {kd a i f j : Nat} (ha : 1 ≤ a) : gi kd a i f j < a := by
  unfold gi
  split
  · exact Nat.mod_lt _ ha
  · split <;> exact Nat.mod_lt _ ha
theorem dm_lt {a b x : Nat} (hx : x < a * b) : x / a < b := Nat.div_lt_of_lt_mul hx
theorem dm_mod {a i f : Nat} (hi : i < a) : (i + a * f) % a = i := by rw [Nat.add_mul_mod_self_left, Nat.mod_eq_of_lt hi]
theorem dm_div {a i f : Nat} (hi : i < a) : (i + a * f) / a = f := by rw [Nat.add_mul_div_left _ _ (by omega), Nat.div_eq_of_lt hi, Nat.zero_add]
theorem dm_all {a b i f : Nat} (hi : i < a) (hf : f < b) : i + a * f < a * b := by
  have := Nat.mul_le_mul_left a (show f + 1 ≤ b from hf)
  rw [Nat.mul_add] at this
  omega
theorem gth_lt {kd a b x s : Nat} (h : grok kd a b) : gth kd a b x s < a * b := dm_all (gi_lt h.2.1) (Nat.mod_lt _ h.2.2.1)
theorem goj_lt {kd a g j : Nat} (hj : j < a) : goj kd a g j < a := by
  unfold goj
  split
  · exact Nat.mod_lt _ (by omega)
  · exact hj
theorem gog_lt {kd b g : Nat} (hg : g < b) : gog kd b g < b := by
  unfold gog
  split
  · exact Nat.mod_lt _ (by omega)
  · exact hg
theorem gop_lt {kd a b s : Nat} (h : grok kd a b) (hs : s < a * b) : gop kd a b s < a * b := dm_all (goj_lt (Nat.mod_lt _ h.2.1)) (gog_lt (dm_lt hs))
theorem g_pair {kd a b i f j g : Nat} (h5 : kd = 1 → b = 2) (h1 : kd < 2) (hi : i < a) (hj : j < a) (hf : f < b) (hg : g < b) : gi kd a (gi kd a i f j) ((f + g) % b) (goj kd a g j) = i ∧ ((f + g) % b + gog kd b g) % b = f := by
  have l1 : (a - j) % a < a := Nat.mod_lt _ (by omega)
  have l2 : (f + g) % b < b := Nat.mod_lt _ (by omega)
  have l3 : (b - g) % b < b := Nat.mod_lt _ (by omega)
  unfold goj gog
  by_cases q : kd = 0 ∨ g = 0
  · rw [if_pos q, if_pos q]
    refine ⟨?_, ?_⟩
    · unfold gi
      by_cases k : kd = 0
      · rw [if_pos k, if_pos k, amd (Nat.mod_lt _ (by omega)) l1, amd hi hj, nmd hj]
        clear l1 l2 l3
        repeat' split
        all_goals omega
      · have g0 : g = 0 := by omega
        subst g0
        rw [if_neg k, if_neg k, Nat.add_zero, Nat.mod_eq_of_lt hf]
        by_cases f0 : f = 0
        · rw [if_pos f0, if_pos f0, amd (Nat.mod_lt _ (by omega)) l1, amd hi hj, nmd hj]
          clear l1 l2 l3
          repeat' split
          all_goals omega
        · rw [if_neg f0, if_neg f0, smd (Nat.mod_lt _ (by omega)) l1, smd hi hj, nmd hj]
          clear l1 l2 l3
          repeat' split
          all_goals omega
    · rw [amd l2 l3, amd hf hg, nmd hg]
      clear l1 l2 l3
      repeat' split
      all_goals omega
  · rw [if_neg q, if_neg q]
    have k : ¬ kd = 0 := fun z => q (Or.inl z)
    have b2 : b = 2 := h5 (by omega)
    subst b2
    have g1 : g = 1 := by omega
    subst g1
    refine ⟨?_, by omega⟩
    unfold gi
    rw [if_neg k, if_neg k]
    by_cases f0 : f = 0
    · rw [if_pos f0, if_neg (by omega), smd (Nat.mod_lt _ (by omega)) hj, amd hi hj]
      clear l1 l2 l3
      repeat' split
      all_goals omega
    · rw [if_neg f0, if_pos (by omega), amd (Nat.mod_lt _ (by omega)) hj, smd hi hj]
      clear l1 l2 l3
      repeat' split
      all_goals omega
theorem g_inj {kd a b i f j g k l : Nat} (hi : i < a) (hj : j < a) (hk : k < a) (hf : f < b) (hg : g < b) (hl : l < b) (e1 : gi kd a i f j = gi kd a i f k) (e2 : (f + g) % b = (f + l) % b) : j = k ∧ g = l := by
  refine ⟨?_, ?_⟩
  · unfold gi at e1
    by_cases q : kd = 0
    · rw [if_pos q, if_pos q, amd hi hj, amd hi hk] at e1
      repeat' split at e1
      all_goals omega
    · rw [if_neg q, if_neg q] at e1
      by_cases f0 : f = 0
      · rw [if_pos f0, if_pos f0, amd hi hj, amd hi hk] at e1
        repeat' split at e1
        all_goals omega
      · rw [if_neg f0, if_neg f0, smd hi hj, smd hi hk] at e1
        repeat' split at e1
        all_goals omega
  · rw [amd hf hg, amd hf hl] at e2
    repeat' split at e2
    all_goals omega
theorem gth_mod {kd a b x s : Nat} (ha : 1 ≤ a) : gth kd a b x s % a = gi kd a (x % a) (x / a) (s % a) := dm_mod (gi_lt ha)
theorem gth_div {kd a b x s : Nat} (ha : 1 ≤ a) : gth kd a b x s / a = (x / a + s / a) % b := dm_div (gi_lt ha)
theorem gth_gop {kd a b x s : Nat} (h : grok kd a b) (hx : x < a * b) (hs : s < a * b) : gth kd a b (gth kd a b x s) (gop kd a b s) = x := by
  obtain ⟨h1, h2, h3, h4, h5⟩ := h
  have hi : x % a < a := Nat.mod_lt _ h2
  have hj : s % a < a := Nat.mod_lt _ h2
  obtain ⟨p1, p2⟩ := g_pair h5 h1 hi hj (dm_lt hx) (dm_lt hs)
  rw [show gth kd a b (gth kd a b x s) (gop kd a b s) = gi kd a (gth kd a b x s % a) (gth kd a b x s / a) (gop kd a b s % a) + a * ((gth kd a b x s / a + gop kd a b s / a) % b) from rfl, gth_mod h2, gth_div h2, show gop kd a b s % a = goj kd a (s / a) (s % a) from dm_mod (goj_lt hj), show gop kd a b s / a = gog kd b (s / a) from dm_div (goj_lt hj), p1, p2]
  exact Nat.mod_add_div x a
theorem gth_0 {kd a b s : Nat} (h : grok kd a b) (hs : s < a * b) : gth kd a b 0 s = s := by
  obtain ⟨h1, h2, h3, h4, h5⟩ := h
  have hj : s % a < a := Nat.mod_lt _ h2
  unfold gth gi
  rw [Nat.zero_mod, Nat.zero_div, Nat.zero_add (s % a), Nat.zero_add (s / a), if_pos rfl, Nat.mod_eq_of_lt hj, Nat.mod_eq_of_lt (dm_lt hs)]
  split <;> exact Nat.mod_add_div s a
theorem gth_op0 {kd a b s : Nat} (h : grok kd a b) (hs : s < a * b) : gth kd a b s (gop kd a b s) = 0 := by
  have := gth_gop (x := 0) h (by omega) hs
  rw [gth_0 h hs] at this
  exact this
/-- from the same thing to the same thing: the same move -/
theorem gth_inj {kd a b x s t : Nat} (h : grok kd a b) (hx : x < a * b) (hs : s < a * b) (ht : t < a * b) (e : gth kd a b x s = gth kd a b x t) : s = t := by
  obtain ⟨h1, h2, h3, h4, h5⟩ := h
  have e1 := congrArg (· % a) e
  have e2 := congrArg (· / a) e
  simp only [gth_mod h2, gth_div h2] at e1 e2
  obtain ⟨r1, r2⟩ := g_inj (Nat.mod_lt _ h2) (Nat.mod_lt _ h2) (Nat.mod_lt _ h2) (dm_lt hx) (dm_lt hs) (dm_lt ht) e1 e2
  rw [← Nat.mod_add_div s a, ← Nat.mod_add_div t a, r1, r2]
theorem gth_opU {kd a b s o : Nat} (h : grok kd a b) (hs : s < a * b) (ho : o < a * b) (e : gth kd a b s o = 0) : o = gop kd a b s := gth_inj h hs ho (gop_lt h hs) (by rw [e, gth_op0 h hs])
theorem gth_ne {kd a b x s : Nat} (h : grok kd a b) (hx : x < a * b) (hs : s < a * b) (e : gth kd a b x s = x) : s = 0 := by
  have e0 : gth kd a b x 0 = x := by
    obtain ⟨h1, h2, h3, h4, h5⟩ := h
    have hi : x % a < a := Nat.mod_lt _ h2
    unfold gth gi
    rw [Nat.zero_mod, Nat.zero_div, Nat.add_zero, Nat.add_zero, Nat.sub_zero, Nat.add_mod_right, Nat.mod_eq_of_lt hi, Nat.mod_eq_of_lt (dm_lt hx)]
    split
    · exact Nat.mod_add_div x a
    · split <;> exact Nat.mod_add_div x a
  exact gth_inj h hx hs (by omega) (e.trans e0.symm)
/-- counting by an image -/
theorem fb_ct_img {q : Nat → Bool} {g : Nat → Nat} {n : Nat} : ∀ (m : Nat) (p : Nat → Bool), (∀ i, i < n → p i = true → ∃ j, j < m ∧ q j = true ∧ g j = i) → fb_ct p n ≤ fb_ct q m
  | 0, p, h => by
    rw [fb_ct_zero.mpr (fun k hk => by
      cases e : p k with
      | false => rfl
      | true => obtain ⟨j, hj, _⟩ := h k hk e; omega)]
    exact Nat.zero_le _
  | m + 1, p, h => by
    rw [fb_ct_succ]
    by_cases e : q m = true ∧ g m < n
    · have h2 := fb_ct_img m (fun k => if k = g m then false else p k) (fun i hi hp => by
        by_cases e2 : i = g m
        · simp only [e2, if_true] at hp; cases hp
        · simp only [e2, if_false] at hp
          obtain ⟨j, hj, h3, h4⟩ := h i hi hp
          refine ⟨j, Nat.lt_of_le_of_ne (by omega) (fun z => ?_), h3, h4⟩
          rw [z] at h4; exact e2 h4.symm)
      have h5 := fb_ct_upd p false e.2
      rw [if_pos e.1]
      rw [if_neg (show ¬ false = true by decide)] at h5
      split at h5 <;> omega
    · have h2 := fb_ct_img m p (fun i hi hp => by
        obtain ⟨j, hj, h3, h4⟩ := h i hi hp
        refine ⟨j, Nat.lt_of_le_of_ne (by omega) (fun z => ?_), h3, h4⟩
        subst z
        exact e ⟨h3, by rw [h4]; exact hi⟩)
      omega
end C94
