/-! the best change of two lines, told once; how often a net may be bettered -/
section C54
abbrev BS : Type := Nat × Option (Nat × Nat × Bool)
def bst (n : Nat) (f : Nat → Int32) (i j : Nat) (cr : Bool) (s : BS) : BS := if cok n f i j cr && decide (cpr n (cgo n f i j cr) < s.1) then (cpr n (cgo n f i j cr), some (i, j, cr)) else s
def bsc (n : Nat) (f : Nat → Int32) (i j : Nat) (s : BS) : Nat → BS
  | 0 => s
  | c + 1 => bst n f i j (decide (c = 1)) (bsc n f i j s c)
def btj (n : Nat) (f : Nat → Int32) (i : Nat) (s : BS) : Nat → BS
  | 0 => s
  | j + 1 => if i < j then bsc n f i j (btj n f i s j) 2 else btj n f i s j
def bti (n : Nat) (f : Nat → Int32) : Nat → BS
  | 0 => (cpr n f, none)
  | i + 1 => btj n f i (bti n f i) (prs n f).length
def bres (n : Nat) (f : Nat → Int32) : Option (Nat × Nat × Bool) := (bti n f (prs n f).length).2
def bin (n : Nat) (f : Nat → Int32) (s : BS) : Prop := match s.2 with
  | none => s.1 = cpr n f
  | some q => q.1 < q.2.1 ∧ q.2.1 < (prs n f).length ∧ cok n f q.1 q.2.1 q.2.2 = true ∧ s.1 = cpr n (cgo n f q.1 q.2.1 q.2.2) ∧ s.1 < cpr n f
theorem bin.le {n : Nat} {f : Nat → Int32} {s : BS} (h : bin n f s) : s.1 ≤ cpr n f := by
  unfold bin at h
  split at h
  · omega
  · omega
theorem bst_in {n : Nat} {f : Nat → Int32} {i j : Nat} {cr : Bool} {s : BS} (hi : i < j) (hj : j < (prs n f).length) (h : bin n f s) : bin n f (bst n f i j cr s) := by
  unfold bst
  split
  · rename_i hc
    simp only [Bool.and_eq_true, decide_eq_true_eq] at hc
    have := h.le
    exact ⟨hi, hj, hc.1, rfl, by show cpr n (cgo n f i j cr) < cpr n f; omega⟩
  · exact h
theorem bsc_in {n : Nat} {f : Nat → Int32} {i j : Nat} {s : BS} (hi : i < j) (hj : j < (prs n f).length) (h : bin n f s) : ∀ c, bin n f (bsc n f i j s c)
  | 0 => h
  | c + 1 => bst_in hi hj (bsc_in hi hj h c)
theorem btj_in {n : Nat} {f : Nat → Int32} {i : Nat} {s : BS} (h : bin n f s) : ∀ j, j ≤ (prs n f).length → bin n f (btj n f i s j)
  | 0, _ => h
  | j + 1, hj => by
    unfold btj
    split
    · exact bsc_in (by assumption) hj (btj_in h j (by omega)) 2
    · exact btj_in h j (by omega)
theorem bti_in {n : Nat} {f : Nat → Int32} : ∀ i, bin n f (bti n f i)
  | 0 => rfl
  | i + 1 => btj_in (bti_in i) _ (Nat.le_refl _)
theorem bres_in {n : Nat} {f : Nat → Int32} {q : Nat × Nat × Bool} (h : bres n f = some q) : q.1 < q.2.1 ∧ q.2.1 < (prs n f).length ∧ cok n f q.1 q.2.1 q.2.2 = true ∧ cpr n (cgo n f q.1 q.2.1 q.2.2) < cpr n f := by
  have h1 := bti_in (n := n) (f := f) (prs n f).length
  unfold bin at h1
  unfold bres at h
  rw [h] at h1
  simp only at h1
  exact ⟨h1.1, h1.2.1, h1.2.2.1, by rw [← h1.2.2.2.1]; exact h1.2.2.2.2⟩
theorem btj_lo {n : Nat} {f : Nat → Int32} {i : Nat} {s : BS} : ∀ j, j ≤ i + 1 → btj n f i s j = s
  | 0, _ => rfl
  | j + 1, h => by rw [btj, if_neg (by omega), btj_lo j (by omega)]
/-- bettered as long as that can be: how often, and what is left -/
def btr (n : Nat) : Nat → (Nat → Int32) → Nat × (Nat → Int32)
  | 0, f => (0, f)
  | m + 1, f => match bres n f with
    | none => (0, f)
    | some q => ((btr n m (cgo n f q.1 q.2.1 q.2.2)).1 + 1, (btr n m (cgo n f q.1 q.2.1 q.2.2)).2)
theorem btr_n {n m : Nat} {f : Nat → Int32} (h : bres n f = none) : btr n (m + 1) f = (0, f) := by unfold btr; rw [h]
theorem btr_s {n m : Nat} {f : Nat → Int32} {q : Nat × Nat × Bool} (h : bres n f = some q) : btr n (m + 1) f = ((btr n m (cgo n f q.1 q.2.1 q.2.2)).1 + 1, (btr n m (cgo n f q.1 q.2.1 q.2.2)).2) := by
  rw [btr]; rw [h]
theorem btr_ok {n d : Nat} : ∀ (m : Nat) {f : Nat → Int32}, nok n d f → nok n d (btr n m f).2
  | 0, _, h => h
  | m + 1, f, h => by
    cases hq : bres n f with
    | none => rw [btr_n hq]; exact h
    | some q =>
      obtain ⟨q1, q2, q3, q4⟩ := bres_in hq
      rw [btr_s hq]
      exact btr_ok m (cgo_ok h (by omega) q2 q3).1
-- how often
def tri : Nat → Nat
  | 0 => 0
  | k + 1 => tri k + (k - 2)
theorem tri_mono {a b : Nat} (h : a ≤ b) : tri a ≤ tri b := by
  induction h with
  | refl => exact Nat.le_refl _
  | step _ ih => exact Nat.le_trans ih (Nat.le_add_right _ _)
/-- pairs that aren't lines -/
def unj (n : Nat) (f : Nat → Int32) : Nat := fb_sm (fun a => a) n - (prs n f).length
theorem prs_sm {n d : Nat} {f : Nat → Int32} (h : nok n d f) : (prs n f).length = fb_sm (fun a => fb_sm (fun b => if bt (f a) b then 1 else 0) a) n := by
  have h1 := prs_len h.sy
  have h2 := hands2 (fun a b => if bt (f a) b then 1 else 0) n (fun a b ha hb => by simp only [h.sym ha hb]) (fun a ha => by simp only [h.irr ha]; rfl)
  have h3 : fb_sm (fun k => pc32 (f k)) n = fb_sm (fun a => fb_sm (fun b => if bt (f a) b then 1 else 0) n) n := fb_sm_cong fun k hk => by
    rw [pc32_n (n := n) (by have := h.n24; omega) (fun b hb => h.out hk hb), ← fb_sm_ct]
  omega
theorem sm_mul (c : Nat) (g : Nat → Nat) : ∀ n, fb_sm (fun k => c * g k) n = c * fb_sm g n
  | 0 => rfl
  | n + 1 => by rw [fb_sm_succ, fb_sm_succ, sm_mul c g n, Nat.mul_add]
theorem dst_1 {n : Nat} {f : Nat → Int32} {a b : Nat} (hn : n ≤ 24) (ha : a < n) (hb : b < n) (hab : a ≠ b) : (bt (f a) b = true → dst n f (allB n) a b = some 1) ∧ (bt (f a) b = false → ∀ e, dst n f (allB n) a b = some e → 2 ≤ e) := by
  have hsa := al_t hn ha
  have hsb := al_t hn hb
  constructor
  · intro h
    refine (dst_PP hsa (al_lt hn) (by omega)).mpr ⟨⟨a, ⟨rfl, hsa⟩, h, hsb⟩, fun e he => ?_⟩
    obtain rfl : e = 0 := by omega
    exact fun q => hab q.1
  · intro h e he
    have h1 := ((dst_PP hsa (al_lt hn) (by omega)).mp he).1
    match e, h1 with
    | 0, q => exact absurd q.1 hab
    | 1, q =>
      obtain ⟨c, ⟨rfl, -⟩, q2, -⟩ := q
      rw [h] at q2; cases q2
    | e + 2, _ => omega
theorem sum_bd {n d : Nat} {f : Nat → Int32} (h : nok n d f) {F S : Nat} (hm : mw n f (allB n) n = some (F, S)) : (prs n f).length + unj n f = fb_sm (fun a => a) n ∧ (prs n f).length + 2 * unj n f ≤ S ∧ S ≤ (prs n f).length + F * unj n f ∧ F < n := by
  have h24 := h.n24
  have hn1 := h.n1
  obtain ⟨i1, i2, i3⟩ := (mw_ok (n := n) (f := f) (st := allB n) n).2 F S hm
  have hl := prs_sm h
  have hU : (prs n f).length + fb_sm (fun a => fb_sm (fun b => if bt (f a) b then 0 else 1) a) n = fb_sm (fun a => a) n := by
    rw [hl, ← fb_sm_add]
    refine fb_sm_cong fun a ha => ?_
    rw [← fb_sm_add]
    have : fb_sm (fun b => (if bt (f a) b then 1 else 0) + if bt (f a) b then 0 else 1) a = fb_sm (fun _ => 1) a := fb_sm_cong fun b _ => by cases bt (f a) b <;> rfl
    rw [this, fb_sm_const]; omega
  have hu : unj n f = fb_sm (fun a => fb_sm (fun b => if bt (f a) b then 0 else 1) a) n := by unfold unj; omega
  have hd : ∀ a b, a < n → b < a → (bt (f a) b = true → dD n f (allB n) a b = 1) ∧ (bt (f a) b = false → 2 ≤ dD n f (allB n) a b ∧ dD n f (allB n) a b ≤ F) := fun a b ha hb => by
    have hsa := al_t h24 ha
    have hsb := al_t h24 (show b < n by omega)
    obtain ⟨e, e1, e2⟩ := i1 a b ha hb hsa hsb
    have e3 : dD n f (allB n) a b = e := by unfold dD; rw [hsa, hsb, e1]; rfl
    obtain ⟨d1, d2⟩ := dst_1 (f := f) h24 ha (show b < n by omega) (show a ≠ b by omega)
    rw [e3]
    refine ⟨fun q => ?_, fun q => ⟨d2 q e e1, e2⟩⟩
    have := d1 q
    rw [e1] at this
    exact Option.some.inj this
  refine ⟨by rw [hu]; exact hU, ?_, ?_, ?_⟩
  · rw [hu, hl, i3, ← sm_mul, ← fb_sm_add]
    refine fb_sm_le fun a ha => ?_
    rw [← sm_mul, ← fb_sm_add]
    refine fb_sm_le fun b hb => ?_
    cases q : bt (f a) b with
    | true => rw [(hd a b ha hb).1 q]; simp
    | false => have := ((hd a b ha hb).2 q).1; simp; omega
  · rw [hu, hl, i3, ← sm_mul, ← fb_sm_add]
    refine fb_sm_le fun a ha => ?_
    rw [← sm_mul, ← fb_sm_add]
    refine fb_sm_le fun b hb => ?_
    cases q : bt (f a) b with
    | true => rw [(hd a b ha hb).1 q]; simp
    | false => have := ((hd a b ha hb).2 q).2; simp; omega
  · rcases i2 with h0 | ⟨a, b, ha, hb, e⟩
    · omega
    · have hb32 := bt32 hb
      have ha32 := bt32 ha
      have h1 := (dst_some hb32 ha32).mp e
      have h2 : ¬ fr n f (allB n) a F = nI 0 := fun q => by rw [q] at h1; rw [show bt (nI 0) b = false from b_0 b] at h1; cases h1
      have h3 := fr_far ha32 h2
      have h4 : pc32 (sn n f (allB n) a F) ≤ n := by
        rw [pc32_n (n := n) (by omega) (fun i hi => ?_)]
        · exact fb_ct_le _ _
        · rcases Nat.lt_or_ge i 32 with q | q
          · cases z : bt (sn n f (allB n) a F) i with
            | false => rfl
            | true =>
              obtain ⟨x, -, hx⟩ := (bt_sn q).mp z
              have := fr_in q (al_lt h24 a ha) (fun i _ hi => al_lt h24 i hi) ha32 hx
              omega
          · exact b_big q
      omega
/-- falls with every change that betters -/
def pot (n : Nat) (f : Nat → Int32) : Nat := match mw n f (allB n) n with
  | none => 45 * unj n f + 12
  | some p => unj n f * tri p.1 + p.1 + p.2 - ((prs n f).length + 2 * unj n f)
theorem sm_id {n : Nat} (h : n ≤ 12) : fb_sm (fun a => a) n ≤ 66 := (by decide : ∀ n, n < 13 → fb_sm (fun a => a) n ≤ 66) n (by omega)
theorem pot_le {n d : Nat} {f : Nat → Int32} (h : nok n d f) (hn : n ≤ 12) : pot n f ≤ 45 * unj n f + 12 := by
  unfold pot
  split
  · exact Nat.le_refl _
  · rename_i p hp
    obtain ⟨F, S⟩ := p
    obtain ⟨s1, s2, s3, s4⟩ := sum_bd h hp
    simp only
    have h1 : tri F ≤ 36 := tri_mono (show F ≤ 11 by omega)
    have h2 : unj n f * tri F ≤ unj n f * 36 := Nat.mul_le_mul_left _ h1
    have h3 : F * unj n f ≤ 11 * unj n f := Nat.mul_le_mul_right _ (by omega)
    omega
theorem pot_dec {n d : Nat} {f g : Nat → Int32} (h : nok n d f) (hg : nok n d g) (hn : n ≤ 12) (hl : (prs n g).length = (prs n f).length) (hc : cpr n g < cpr n f) : pot n g < pot n f := by
  have hu : unj n g = unj n f := by unfold unj; rw [hl]
  have ef : mpr n f = cpr n f := mpr_eq h.n24 (fun a b ha hb => h.sym ha hb)
  have eg : mpr n g = cpr n g := mpr_eq hg.n24 (fun a b ha hb => hg.sym ha hb)
  rw [← ef, ← eg] at hc
  have hid := sm_id hn
  cases hq : mw n g (allB n) n with
  | none =>
    exfalso
    unfold mpr at hc
    rw [hq] at hc
    cases hp : mw n f (allB n) n with
    | none => rw [hp] at hc; simp at hc
    | some p =>
      rw [hp] at hc
      have := mw_bd n (by omega) p hp
      simp only at hc
      omega
  | some p' =>
    obtain ⟨F', S'⟩ := p'
    obtain ⟨t1, t2, t3, t4⟩ := sum_bd hg hq
    rw [hu, hl] at t1 t2 t3
    have h1 : tri F' ≤ 36 := tri_mono (show F' ≤ 11 by omega)
    have h2 : unj n f * tri F' ≤ unj n f * 36 := Nat.mul_le_mul_left _ h1
    have h3 : F' * unj n f ≤ 11 * unj n f := Nat.mul_le_mul_right _ (by omega)
    cases hp : mw n f (allB n) n with
    | none =>
      unfold pot
      rw [hq, hp, hu, hl]
      simp only
      omega
    | some p =>
      obtain ⟨F, S⟩ := p
      obtain ⟨s1, s2, s3, s4⟩ := sum_bd h hp
      have h4 : F * unj n f ≤ 11 * unj n f := Nat.mul_le_mul_right _ (by omega)
      unfold mpr at hc
      rw [hq, hp] at hc
      simp only at hc
      unfold pot
      rw [hq, hp, hu, hl]
      simp only
      by_cases e : F' = F
      · subst e; omega
      · have hlt : F' < F := by omega
        have h5 : tri (F' + 1) ≤ tri F := tri_mono hlt
        have h6 : unj n f * (tri F' + (F' - 2)) ≤ unj n f * tri F := Nat.mul_le_mul_left _ h5
        rw [Nat.mul_add] at h6
        rcases Nat.lt_or_ge F' 2 with q | q
        · have h7 : F' * unj n f ≤ 1 * unj n f := Nat.mul_le_mul_right _ (by omega)
          omega
        · have h7 : unj n f * (F' - 2) + unj n f * 2 = unj n f * F' := by rw [← Nat.mul_add, Nat.sub_add_cancel q]
          rw [Nat.mul_comm F' (unj n f)] at t3
          omega
theorem slots_ok {n d : Nat} {f : Nat → Int32} (h : nok n d f) (hn : n ≤ 12) : pot n f + 1 ≤ 2990 ∧ (pot n f + 1) * (prs n f).length ≤ 51000 := by
  have h1 := pot_le h hn
  have h2 := prs_96 h
  have hs : (prs n f).length + unj n f ≤ 66 := by
    have := sm_id hn
    have h3 : (prs n f).length ≤ fb_sm (fun a => a) n := by
      rw [prs_sm h]
      refine fb_sm_le fun a _ => ?_
      have := fb_sm_bound (f := fun b => if bt (f a) b then 1 else 0) (c := 1) (n := a) (fun k _ => by show (if _ then 1 else 0) ≤ 1; split <;> omega)
      omega
    unfold unj; omega
  refine ⟨by omega, Nat.le_trans (Nat.mul_le_mul_right _ (show pot n f + 1 ≤ 45 * unj n f + 13 by omega)) ?_⟩
  exact (by decide +kernel : ∀ u, u < 67 → ∀ m, m < 67 → u + m ≤ 66 → (45 * u + 13) * m ≤ 51000) (unj n f) (by omega) (prs n f).length (by omega) (by omega)
end C54
