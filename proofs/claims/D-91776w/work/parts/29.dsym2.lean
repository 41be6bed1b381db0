/-! the greatest distance and the sum of all, as Flood finds them and as the reference does -/
section DSYM2
variable {n : Nat} {f : Nat → Int32} {st : Int32}
theorem eccm_ok {a : Nat} (ha : a < 32) : ∀ m, ¬ fr n f st a (eccm n f st a (m + 1)) = nI 0 ∧ ∀ e, e < m + 1 → ¬ fr n f st a e = nI 0 → e ≤ eccm n f st a (m + 1)
  | 0 => by
    have h0 := fr_0_ne (n := n) (f := f) (st := st) ha
    have e : eccm n f st a 1 = 0 := by rw [eccm, if_neg h0]
    rw [e]
    exact ⟨h0, fun e he _ => by omega⟩
  | m + 1 => by
    obtain ⟨h1, h2⟩ := eccm_ok ha m
    by_cases q : fr n f st a (m + 1) = nI 0
    · have e : eccm n f st a (m + 1 + 1) = eccm n f st a (m + 1) := by rw [eccm, if_pos q]
      rw [e]
      refine ⟨h1, fun e he hne => ?_⟩
      by_cases q2 : e = m + 1
      · subst q2; exact absurd q hne
      · exact h2 e (by omega) hne
    · have e : eccm n f st a (m + 1 + 1) = m + 1 := by rw [eccm, if_neg q]
      rw [e]
      exact ⟨q, fun e he _ => by omega⟩
theorem ecc_max {a b d : Nat} (ha : a < 32) (hb : b < 32) (h : dst n f st a b = some d) : d ≤ ecc n f st a := by
  have hd := dst_lt h hb
  rw [dst_some hb ha] at h
  refine (eccm_ok ha 31).2 d hd (fun q => ?_)
  rw [q, show bt (nI 0) b = false from b_0 b] at h
  cases h
theorem ecc_at {a : Nat} (ha : bt st a = true) (hst : ∀ i, bt st i = true → i < n) : ∃ b, bt st b = true ∧ dst n f st a b = some (ecc n f st a) := by
  have h := (eccm_ok (n := n) (f := f) (st := st) (bt32 ha) 31).1
  obtain ⟨i, hi, h1, -⟩ := exists_low h
  have hd : dst n f st a i = some (ecc n f st a) := (dst_some hi (bt32 ha)).mpr h1
  exact ⟨i, dst_in ha hst hi hd, hd⟩
theorem cfa_ok (hst : ∀ i, bt st i = true → i < n) : ∀ j, (cfa n f st j = none → ∃ a b, a < j ∧ bt st a = true ∧ bt st b = true ∧ dst n f st a b = none) ∧ (∀ v, cfa n f st j = some v → (∀ a, a < j → bt st a = true → (∀ b, bt st b = true → ∃ d, dst n f st a b = some d) ∧ ecc n f st a ≤ v) ∧ (v = 0 ∨ ∃ a, bt st a = true ∧ v = ecc n f st a))
  | 0 => ⟨fun h => (nomatch h), fun v h => ⟨fun a ha => absurd ha (by omega), Or.inl (by cases h; rfl)⟩⟩
  | j + 1 => by
    obtain ⟨ih1, ih2⟩ := cfa_ok hst j
    by_cases hj : bt st j = true
    · cases hq : cfa n f st j with
      | none =>
        have e : cfa n f st (j + 1) = none := by rw [cfa, if_pos hj, hq]
        rw [e]
        refine ⟨fun _ => ?_, fun v h => (nomatch h)⟩
        obtain ⟨a, b, h1, h2⟩ := ih1 hq
        exact ⟨a, b, by omega, h2⟩
      | some u =>
        obtain ⟨i1, i2⟩ := ih2 u hq
        by_cases q : sn n f st j 32 = st
        · have e : cfa n f st (j + 1) = some (max u (ecc n f st j)) := by rw [cfa, if_pos hj, hq]; simp only; rw [if_pos q]
          rw [e]
          refine ⟨fun h => (nomatch h), fun v h => ?_⟩
          cases h
          refine ⟨fun a ha hsa => ?_, ?_⟩
          · by_cases q2 : a = j
            · subst q2; exact ⟨(sn_st hj hst).mp q, Nat.le_max_right _ _⟩
            · have := i1 a (by omega) hsa
              exact ⟨this.1, Nat.le_trans this.2 (Nat.le_max_left _ _)⟩
          · rcases Nat.le_total u (ecc n f st j) with q3 | q3
            · rw [Nat.max_eq_right q3]; exact Or.inr ⟨j, hj, rfl⟩
            · rw [Nat.max_eq_left q3]; exact i2
        · have e : cfa n f st (j + 1) = none := by rw [cfa, if_pos hj, hq]; simp only; rw [if_neg q]
          rw [e]
          refine ⟨fun _ => ?_, fun v h => (nomatch h)⟩
          rw [sn_st hj hst] at q
          refine Classical.byContradiction fun z => q fun b hb => ?_
          cases h : dst n f st j b with
          | none => exact absurd ⟨j, b, by omega, hj, hb, h⟩ z
          | some d => exact ⟨d, rfl⟩
    · have e : cfa n f st (j + 1) = cfa n f st j := by rw [cfa, if_neg hj]
      rw [e]
      refine ⟨fun h => ?_, fun v h => ?_⟩
      · obtain ⟨a, b, h1, h2⟩ := ih1 h
        exact ⟨a, b, by omega, h2⟩
      · obtain ⟨i1, i2⟩ := ih2 v h
        refine ⟨fun a ha hsa => ?_, i2⟩
        by_cases q2 : a = j
        · subst q2; exact absurd hsa hj
        · exact i1 a (by omega) hsa
theorem cfa_none_conn (hst : ∀ i, bt st i = true → i < n) (h : cfa n f st 32 = none) : ¬ conn n f st := fun hc => by
  obtain ⟨a, b, -, h1, h2, h3⟩ := (cfa_ok hst 32).1 h
  obtain ⟨d, hd⟩ := hc a b h1 h2
  rw [hd] at h3; cases h3
theorem cfa_some_conn (hst : ∀ i, bt st i = true → i < n) {v : Nat} (h : cfa n f st 32 = some v) : conn n f st ∧ gtst n f st v := by
  obtain ⟨i1, i2⟩ := (cfa_ok hst 32).2 v h
  refine ⟨fun a b ha hb => (i1 a (bt32 ha) ha).1 b hb, fun a b d ha hb hd => Nat.le_trans (ecc_max (bt32 ha) (bt32 hb) hd) (i1 a (bt32 ha) ha).2, ?_⟩
  rcases i2 with h0 | ⟨a, ha, rfl⟩
  · exact Or.inl h0
  · obtain ⟨b, hb, hd⟩ := ecc_at ha hst
    exact Or.inr ⟨a, b, ha, hb, hd⟩
/-- the reference's: a row, all rows -/
def mwr (n : Nat) (f : Nat → Int32) (st : Int32) (a : Nat) (acc : Option (Nat × Nat)) : Nat → Option (Nat × Nat)
  | 0 => acc
  | b + 1 => match mwr n f st a acc b with
    | none => none
    | some p => if bt st b then (match dst n f st a b with
      | none => none
      | some d => some (max p.1 d, p.2 + d)) else some p
def mw (n : Nat) (f : Nat → Int32) (st : Int32) : Nat → Option (Nat × Nat)
  | 0 => some (0, 0)
  | a + 1 => if bt st a then mwr n f st a (mw n f st a) a else mw n f st a
def dD (n : Nat) (f : Nat → Int32) (st : Int32) (a b : Nat) : Nat := if bt st a && bt st b then (dst n f st a b).getD 0 else 0
theorem mwr_none {a : Nat} : ∀ b, mwr n f st a none b = none
  | 0 => rfl
  | b + 1 => by rw [mwr, mwr_none b]
theorem mwr_ok {a : Nat} (ha : bt st a = true) {F S : Nat} : ∀ b, (mwr n f st a (some (F, S)) b = none → ∃ b', b' < b ∧ bt st b' = true ∧ dst n f st a b' = none) ∧ ∀ F' S', mwr n f st a (some (F, S)) b = some (F', S') → (∀ b', b' < b → bt st b' = true → ∃ d, dst n f st a b' = some d ∧ d ≤ F') ∧ F ≤ F' ∧ (F' = F ∨ ∃ b', b' < b ∧ bt st b' = true ∧ dst n f st a b' = some F') ∧ S' = S + fb_sm (fun b => dD n f st a b) b
  | 0 => ⟨fun h => (nomatch h), fun F' S' h => by cases h; exact ⟨fun b' h' => absurd h' (by omega), Nat.le_refl _, Or.inl rfl, rfl⟩⟩
  | b + 1 => by
    obtain ⟨ih1, ih2⟩ := mwr_ok (a := a) ha (F := F) (S := S) b
    cases hq : mwr n f st a (some (F, S)) b with
    | none =>
      have e : mwr n f st a (some (F, S)) (b + 1) = none := by rw [mwr, hq]
      rw [e]
      refine ⟨fun _ => ?_, fun F' S' h => (nomatch h)⟩
      obtain ⟨b', h1, h2⟩ := ih1 hq
      exact ⟨b', by omega, h2⟩
    | some p =>
      obtain ⟨i1, i2, i3, i4⟩ := ih2 p.1 p.2 hq
      by_cases hb : bt st b = true
      · cases hd : dst n f st a b with
        | none =>
          have e : mwr n f st a (some (F, S)) (b + 1) = none := by rw [mwr, hq]; simp only; rw [if_pos hb, hd]
          rw [e]
          exact ⟨fun _ => ⟨b, by omega, hb, hd⟩, fun F' S' h => (nomatch h)⟩
        | some d =>
          have e : mwr n f st a (some (F, S)) (b + 1) = some (max p.1 d, p.2 + d) := by rw [mwr, hq]; simp only; rw [if_pos hb, hd]
          rw [e]
          refine ⟨fun h => (nomatch h), fun F' S' h => ?_⟩
          cases h
          refine ⟨fun b' hb' hs' => ?_, Nat.le_trans i2 (Nat.le_max_left _ _), ?_, ?_⟩
          · by_cases q : b' = b
            · subst q; exact ⟨d, hd, Nat.le_max_right _ _⟩
            · obtain ⟨d', a1, a2⟩ := i1 b' (by omega) hs'
              exact ⟨d', a1, Nat.le_trans a2 (Nat.le_max_left _ _)⟩
          · rcases Nat.le_total p.1 d with q | q
            · rw [Nat.max_eq_right q]; exact Or.inr ⟨b, by omega, hb, hd⟩
            · rw [Nat.max_eq_left q]
              rcases i3 with i3 | ⟨b', a1, a2⟩
              · exact Or.inl i3
              · exact Or.inr ⟨b', by omega, a2⟩
          · rw [fb_sm_succ, i4]
            have : dD n f st a b = d := by unfold dD; rw [ha, hb, hd]; rfl
            rw [this]; omega
      · have e : mwr n f st a (some (F, S)) (b + 1) = some p := by rw [mwr, hq]; simp only; rw [if_neg hb]
        rw [e]
        refine ⟨fun h => (nomatch h), fun F' S' h => ?_⟩
        cases h
        refine ⟨fun b' hb' hs' => ?_, i2, ?_, ?_⟩
        · by_cases q : b' = b
          · subst q; exact absurd hs' hb
          · exact i1 b' (by omega) hs'
        · rcases i3 with i3 | ⟨b', a1, a2⟩
          · exact Or.inl i3
          · exact Or.inr ⟨b', by omega, a2⟩
        · have i4' : S' = S + fb_sm (fun b => dD n f st a b) b := i4
          rw [fb_sm_succ, i4']
          have : dD n f st a b = 0 := by unfold dD; rw [if_neg (by simp [hb])]
          rw [this]; rfl
theorem mw_ok : ∀ j, (mw n f st j = none → ∃ a b, bt st a = true ∧ bt st b = true ∧ dst n f st a b = none) ∧ ∀ F S, mw n f st j = some (F, S) → (∀ a b, a < j → b < a → bt st a = true → bt st b = true → ∃ d, dst n f st a b = some d ∧ d ≤ F) ∧ (F = 0 ∨ ∃ a b, bt st a = true ∧ bt st b = true ∧ dst n f st a b = some F) ∧ S = fb_sm (fun a => fb_sm (fun b => dD n f st a b) a) j
  | 0 => ⟨fun h => (nomatch h), fun F S h => by cases h; exact ⟨fun a b h' => absurd h' (by omega), Or.inl rfl, rfl⟩⟩
  | j + 1 => by
    obtain ⟨ih1, ih2⟩ := mw_ok j
    by_cases hj : bt st j = true
    · cases hq : mw n f st j with
      | none =>
        have e : mw n f st (j + 1) = none := by rw [mw, if_pos hj, hq, mwr_none]
        rw [e]
        exact ⟨fun _ => ih1 hq, fun F S h => (nomatch h)⟩
      | some p =>
        obtain ⟨i1, i2, i3⟩ := ih2 p.1 p.2 hq
        have e : mw n f st (j + 1) = mwr n f st j (some (p.1, p.2)) j := by rw [mw, if_pos hj, hq]
        rw [e]
        obtain ⟨r1, r2⟩ := mwr_ok (n := n) (f := f) hj (F := p.1) (S := p.2) j
        refine ⟨fun h => ?_, fun F S h => ?_⟩
        · obtain ⟨b, -, h2, h3⟩ := r1 h
          exact ⟨j, b, hj, h2, h3⟩
        · obtain ⟨s1, s2, s3, s4⟩ := r2 F S h
          refine ⟨fun a b ha hb hsa hsb => ?_, ?_, ?_⟩
          · by_cases q : a = j
            · subst q; exact s1 b hb hsb
            · obtain ⟨d, a1, a2⟩ := i1 a b (by omega) hb hsa hsb
              exact ⟨d, a1, Nat.le_trans a2 s2⟩
          · rcases s3 with rfl | ⟨b, -, h1, h2⟩
            · exact i2
            · exact Or.inr ⟨j, b, hj, h1, h2⟩
          · rw [fb_sm_succ, s4, i3]
    · have e : mw n f st (j + 1) = mw n f st j := by rw [mw, if_neg hj]
      rw [e]
      refine ⟨ih1, fun F S h => ?_⟩
      obtain ⟨i1, i2, i3⟩ := ih2 F S h
      refine ⟨fun a b ha hb hsa hsb => ?_, i2, ?_⟩
      · by_cases q : a = j
        · subst q; exact absurd hsa hj
        · exact i1 a b (by omega) hb hsa hsb
      · rw [fb_sm_succ, i3]
        have : fb_sm (fun b => dD n f st j b) j = 0 := by
          have : fb_sm (fun b => dD n f st j b) j = fb_sm (fun _ => 0) j := fb_sm_cong fun b _ => by unfold dD; rw [if_neg (by simp [hj])]
          rw [this, fb_sm_const]; omega
        rw [this]; rfl
/-- both find the same -/
theorem mw_none {h32 : n ≤ 32} (hst : ∀ i, bt st i = true → i < n) (h : mw n f st n = none) : cfa n f st 32 = none := by
  obtain ⟨a, b, h1, h2, h3⟩ := (mw_ok n).1 h
  cases hq : cfa n f st 32 with
  | none => rfl
  | some v =>
    obtain ⟨d, hd⟩ := (cfa_some_conn hst hq).1 a b h1 h2
    rw [hd] at h3; cases h3
theorem mw_some (hst : ∀ i, bt st i = true → i < n) (hs : ∀ a b, a < n → b < n → bt (f a) b = bt (f b) a) {F S : Nat} (h : mw n f st n = some (F, S)) : cfa n f st 32 = some F ∧ conn n f st := by
  obtain ⟨i1, i2, i3⟩ := (mw_ok n).2 F S h
  have hc : ∀ a b, bt st a = true → bt st b = true → ∃ d, dst n f st a b = some d ∧ d ≤ F := fun a b ha hb => by
    rcases Nat.lt_trichotomy b a with q | q | q
    · exact i1 a b (hst a ha) q ha hb
    · subst q; exact ⟨0, dst_self ha, Nat.zero_le _⟩
    · rw [dst_sym ha hb hst hs]; exact i1 b a (hst b hb) q hb ha
  have hcn : conn n f st := fun a b ha hb => by
    obtain ⟨d, h1, -⟩ := hc a b ha hb
    exact ⟨d, h1⟩
  have hg : gtst n f st F := ⟨fun a b d ha hb hd => by
    obtain ⟨d', h1, h2⟩ := hc a b ha hb
    rw [hd] at h1; cases h1; exact h2, i2⟩
  refine ⟨?_, hcn⟩
  cases hq : cfa n f st 32 with
  | none => exact absurd hcn (cfa_none_conn hst hq)
  | some v => rw [gtst_one (cfa_some_conn hst hq).2 hg]
theorem fb_sm_zeroF (n : Nat) : fb_sm (fun _ => 0) n = 0 := by rw [fb_sm_const]; omega
theorem hands2 (D : Nat → Nat → Nat) : ∀ n, (∀ a b, a < n → b < n → D a b = D b a) → (∀ a, a < n → D a a = 0) → fb_sm (fun a => fb_sm (D a) n) n = 2 * fb_sm (fun a => fb_sm (D a) a) n
  | 0, _, _ => rfl
  | n + 1, hs, hi => by
    have ih := hands2 D n (fun a b ha hb => hs a b (by omega) (by omega)) (fun a ha => hi a (by omega))
    have e1 : fb_sm (fun a => fb_sm (D a) (n + 1)) (n + 1) = fb_sm (fun a => fb_sm (D a) n) n + fb_sm (fun a => D a n) n + (fb_sm (D n) n + 0) := by
      rw [fb_sm_succ, fb_sm_succ, hi n (by omega)]
      have : fb_sm (fun a => fb_sm (D a) (n + 1)) n = fb_sm (fun a => fb_sm (D a) n + D a n) n := fb_sm_cong fun k _ => fb_sm_succ _ _
      rw [this, fb_sm_add]
    have e3 : fb_sm (fun a => D a n) n = fb_sm (D n) n := fb_sm_cong fun k hk => hs k n (by omega) (by omega)
    rw [e1, e3, ih, fb_sm_succ]
    omega
theorem fb_ex (p : Nat → Nat → Bool) (M : Nat) : ∀ m, fb_sm (fun e => e * fb_ct (p e) m) M = fb_sm (fun b => fb_sm (fun e => if p e b then e else 0) M) m
  | 0 => by
    have : fb_sm (fun e => e * fb_ct (p e) 0) M = fb_sm (fun _ => 0) M := fb_sm_cong fun e _ => by show e * 0 = 0; omega
    rw [this, fb_sm_zeroF]; rfl
  | m + 1 => by
    rw [fb_sm_succ, ← fb_ex p M m, ← fb_sm_add]
    refine fb_sm_cong fun e _ => ?_
    rw [fb_ct_succ, Nat.mul_add]
    split <;> simp
theorem fb_one {g : Nat → Nat} {d : Nat} (h : ∀ e, e ≠ d → g e = 0) : ∀ m, fb_sm g m = if d < m then g d else 0
  | 0 => by rw [if_neg (by omega)]; rfl
  | m + 1 => by
    rw [fb_sm_succ, fb_one h m]
    by_cases q : d < m
    · rw [if_pos q, if_pos (by omega), h m (by omega)]; rfl
    · by_cases q2 : d = m
      · subst q2; rw [if_neg (by omega), if_pos (by omega)]; omega
      · rw [if_neg q, if_neg (by omega), h m (by omega)]
theorem crs_D {s : Nat} (hs : s < 32) : crs n f st s = fb_sm (fun b => (dst n f st s b).getD 0) 32 := by
  unfold crs pc32
  rw [fb_ex]
  refine fb_sm_cong fun b hb => ?_
  cases h : dst n f st s b with
  | none =>
    have : fb_sm (fun e => if bt (fr n f st s e) b then e else 0) 32 = fb_sm (fun _ => 0) 32 := fb_sm_cong fun e _ => by
      split
      · rename_i q
        rw [(dst_some hb hs).mpr q] at h; cases h
      · rfl
    rw [this, fb_sm_zeroF]; rfl
  | some d =>
    have h1 := (dst_some hb hs).mp h
    have h2 := dst_lt h hb
    rw [fb_one (d := d) (fun e he => by
      split
      · rename_i q
        exact absurd (fr_one hb q h1) he
      · rfl), if_pos h2, if_pos h1]
    rfl
theorem sums_D {S F : Nat} (h24 : n ≤ 24) (hs : ∀ a b, a < n → b < n → bt (f a) b = bt (f b) a) (h : mw n f (allB n) n = some (F, S)) : csm n f / 2 = S := by
  have hst : ∀ i, bt (allB n) i = true → i < n := fun i hi => by rw [bt_allB h24] at hi; simpa using hi
  have hal : ∀ {i}, i < n → bt (allB n) i = true := fun {i} hi => by rw [bt_allB h24]; simpa using hi
  obtain ⟨-, -, i3⟩ := (mw_ok n).2 F S h
  have e1 : csm n f = fb_sm (fun a => fb_sm (dD n f (allB n) a) n) n := by
    unfold csm
    refine fb_sm_cong fun k hk => ?_
    rw [crs_D (by omega)]
    have : ∀ b, (dst n f (allB n) k b).getD 0 = dD n f (allB n) k b ∨ 32 ≤ b := fun b => by
      rcases Nat.lt_or_ge b 32 with q | q
      · refine Or.inl ?_
        unfold dD
        rw [hal hk]
        cases hb : bt (allB n) b with
        | true => rfl
        | false =>
          cases hd : dst n f (allB n) k b with
          | none => rfl
          | some d => rw [dst_in (hal hk) hst q hd] at hb; cases hb
      · exact Or.inr q
    have e2 : fb_sm (fun b => (dst n f (allB n) k b).getD 0) 32 = fb_sm (fun b => dD n f (allB n) k b) 32 := fb_sm_cong fun b hb => (this b).resolve_right (by omega)
    rw [e2]
    exact sm_tail (fun i hi => by unfold dD; rw [if_neg (by rw [bt_allB h24, bt_allB h24, decide_eq_false (by omega : ¬ i < n)]; simp)]) (by omega)
  rw [e1, hands2 _ n (fun a b ha hb => by unfold dD; rw [hal ha, hal hb, dst_sym (hal ha) (hal hb) hst hs]) (fun a ha => by unfold dD; rw [hal ha, dst_self (hal ha)]; rfl), i3]
  show 2 * _ / 2 = fb_sm (fun a => fb_sm (dD n f (allB n) a) a) n
  omega
/-- the reference's price -/
def mpr (n : Nat) (f : Nat → Int32) : Nat := match mw n f (allB n) n with
  | none => 1000000
  | some p => 1000 * p.1 + p.2
theorem mpr_eq (h24 : n ≤ 24) (hs : ∀ a b, a < n → b < n → bt (f a) b = bt (f b) a) : mpr n f = cpr n f := by
  have hst : ∀ i, bt (allB n) i = true → i < n := fun i hi => by rw [bt_allB h24] at hi; simpa using hi
  unfold mpr cpr
  cases hq : mw n f (allB n) n with
  | none => rw [mw_none (h32 := by omega) hst hq]
  | some p =>
    have := mw_some hst hs (F := p.1) (S := p.2) hq
    rw [this.1]
    show 1000 * p.1 + p.2 = 1000 * p.1 + csm n f / 2
    rw [sums_D h24 hs (F := p.1) (S := p.2) hq]
end DSYM2
