/-! tell: both families come to all in the same round -/
section C9yh
def nF (n : Nat) (f : Nat → Int32) (v : Nat) : Nat → Nat → Prop
  | 0, c => c = 2 ^ v
  | r + 1, c => c < 2 ^ n ∧ ∃ s, s < 2 ^ n ∧ nF n f v r s ∧ gP n f (nI s) n 0 (nI s) (nI c)
abbrev mSt (n : Nat) (f : Nat → Int32) (s q : Nat) : Prop := 0 < q ∧ q < 2 ^ n ∧ (∀ k, bt (nI q) k = true → bt (nI s) k = false) ∧ pc32 (nI q) = mostT n f (nI s) ∧ mA (tg f (nI s)) (fun k => bt (nI q) k = true)
def mF (n : Nat) (f : Nat → Int32) (v : Nat) : Nat → Nat → Prop
  | 0, c => c = 2 ^ v
  | r + 1, c => c < 2 ^ n ∧ ∃ s, 0 < s ∧ s < 2 ^ n ∧ mF n f v r s ∧ ∃ q, mSt n f s q ∧ nI c = nI s ||| nI q
theorem in_lt {n s k : Nat} (hs : s < 2 ^ n) (h : bt (nI s) k = true) : k < n := by
  refine Nat.lt_of_not_le fun q => ?_
  rw [bits_in hs q] at h; cases h
theorem bt_pow {n v k : Nat} (hn : n ≤ 24) (hv : v < n) : bt (nI (2 ^ v)) k = decide (k = v) := by
  rw [← b1_nI (show v ≤ 24 by omega)]
  exact bt_b1 (by omega)
theorem fF_lt {n v : Nat} {f : Nat → Int32} (hv : v < n) : ∀ {r c}, (nF n f v r c → c < 2 ^ n) ∧ (mF n f v r c → c < 2 ^ n)
  | 0, c => ⟨fun e => by rw [show c = 2 ^ v from e]; exact Nat.pow_lt_pow_right (by decide) hv, fun e => by rw [show c = 2 ^ v from e]; exact Nat.pow_lt_pow_right (by decide) hv⟩
  | r + 1, c => ⟨fun e => e.1, fun e => e.1⟩
theorem or_lt {n s q : Nat} (hn : n ≤ 24) (hs : s < 2 ^ n) (hq : q < 2 ^ n) : ∃ c, c < 2 ^ n ∧ nI c = nI s ||| nI q := by
  obtain ⟨c, h1, h2⟩ := msk_of (M := nI s ||| nI q) hn (fun k hk => by
    rw [b_or, Bool.or_eq_true] at hk
    exact hk.elim (in_lt hs) (in_lt hq))
  exact ⟨c, h1, h2.symm⟩
theorem mFp {n v : Nat} {f : Nat → Int32} (hn : n ≤ 24) (hv : v < n) : ∀ {r c}, mF n f v r c → ∃ k, k < n ∧ bt (nI c) k = true
  | 0, c, e => ⟨v, hv, by rw [show c = 2 ^ v from e, bt_pow hn hv, decide_eq_true rfl]⟩
  | r + 1, c, e => by
    obtain ⟨h1, s, h2, h3, h4, q, h5, h6⟩ := e
    obtain ⟨k, hk, hb⟩ := mFp hn hv h4
    exact ⟨k, hk, by rw [h6, b_or, hb]; rfl⟩
theorem mN {n d v : Nat} {f : Nat → Int32} (h : nok n d f) (hv : v < n) : ∀ {r c}, mF n f v r c → nF n f v r c
  | 0, c, e => e
  | r + 1, c, e => by
    obtain ⟨h1, s, h2, h3, h4, q, ⟨q1, q2, q3, q4, q5⟩, h6⟩ := e
    refine ⟨h1, s, h3, mN h hv h4, ?_⟩
    obtain ⟨O, hO⟩ := id q5
    have hA : ∀ k, bt (nI s) k = true → k < n := fun k hk => in_lt h3 hk
    refine gp_mn (Q := fun k => bt (nI q) k = true) h.n24 hA (fun a b ha hb => h.sym ha hb) (fun z hz => ⟨in_lt q2 hz, q3 z hz⟩) (fun u hu hAu hQu hm => ?_) (fun z => by rw [h6, b_or, Bool.or_eq_true]) n 0 (nI s) O (by omega) hO (fun t z e => ⟨fun q => absurd q (by omega), fun q => by rw [q3 z (hO.1 t z e).2.2] at q; cases q⟩) (fun z hz => Or.inl hz) (fun z hz => hz)
    have h9 := mostT_ge (f := f) h.n24 hA hm (fun z hz => hz.elim (in_lt q2) (fun e => by omega)) (fun z hz => hz.elim (q3 z) (fun e => by rw [e]; exact hAu))
    rw [ctP_one (by have := h.n24; omega) hQu, ctP_msk (fun k hk => by have := in_lt q2 hk; have := h.n24; omega), q4] at h9
    omega
theorem edge {f : Nat → Int32} {st A : Int32} : ∀ (e : Nat) {a b : Nat}, PP f st e a b → bt st b = true → bt A a = true → bt A b = false → ∃ k u, bt A k = true ∧ bt A u = false ∧ bt (f k) u = true ∧ bt st u = true ∧ bt st k = true
  | 0, a, b, hP, _, ha, hb => by
    have : a = b := hP.1
    rw [this, hb] at ha; cases ha
  | e + 1, a, b, hP, hsb, ha, hb => by
    obtain ⟨c, h1, h2⟩ := hP.back
    cases hc : bt A c with
    | false => exact ⟨a, c, ha, hc, h1, h2.inl, hP.inl⟩
    | true => exact edge e h2 hsb hc hb
theorem most_pos {n d : Nat} {f : Nat → Int32} (h : nok n d f) (hc : conn n f (allB n)) {A : Int32} (hA : ∀ k, bt A k = true → k < n) {a : Nat} (ha : bt A a = true) {b : Nat} (hb : b < n) (hAb : bt A b = false) : 1 ≤ mostT n f A := by
  have hn := h.n24
  obtain ⟨e, he⟩ := hc a b (al_t hn (hA a ha)) (al_t hn hb)
  have hp := ((dst_PP (al_t hn (hA a ha)) (al_lt hn) (by omega)).mp he).1
  obtain ⟨k, u, h1, h2, h3, h4, h5⟩ := edge e hp (al_t hn hb) ha hAb
  have hun := al_lt hn u h4
  have hkn := al_lt hn k h5
  have hm : mA (tg f A) (fun z => False ∨ z = u) := ⟨_, mS_new (O := fun _ => none) (x := u) (y := k) ⟨fun t z e => by (have := (clr_c e).2; cases this), fun t u z e => by (have := (clr_c e).2; cases this), fun z e => e.elim⟩ (fun q => q) (by omega) (by omega) (tg_t.mpr ⟨by rw [h.sym hun hkn]; exact h3, h1⟩)⟩
  have := mostT_ge hn hA hm (fun z hz => hz.elim False.elim (fun e => by omega)) (fun z hz => hz.elim False.elim (fun e => by rw [e]; exact h2))
  rw [ctP_one (by omega) (fun q => q)] at this
  omega
theorem not_all {n b : Nat} (hn : n ≤ 24) (hb : b < 2 ^ n) (hne : b ≠ 2 ^ n - 1) : ∃ u, u < n ∧ bt (nI b) u = false := by
  refine Classical.byContradiction fun q => hne ?_
  have hp : 2 ^ n ≤ 2 ^ 24 := Nat.pow_le_pow_right (by decide) hn
  have e : nI b = nI (2 ^ n - 1) := by
    rw [← al_nI hn]
    refine b_ext fun i hi => ?_
    rw [bt_allB hn]
    by_cases q2 : i < n
    · rw [decide_eq_true q2]
      cases hbi : bt (nI b) i with
      | true => rfl
      | false => exact absurd ⟨i, q2, hbi⟩ q
    · rw [decide_eq_false q2]; exact bits_in hb (by omega)
  exact (nI_eq (by omega) (by omega)).mp e
theorem mStep {n d : Nat} {f : Nat → Int32} (h : nok n d f) (hc : conn n f (allB n)) {s : Nat} (hs : s < 2 ^ n) {a : Nat} (ha : bt (nI s) a = true) (hne : s ≠ 2 ^ n - 1) {Q0 : Nat → Prop} (hQ : mA (tg f (nI s)) Q0) (h1 : ∀ z, Q0 z → z < n) (h2 : ∀ z, Q0 z → bt (nI s) z = false) : ∃ q c, mSt n f s q ∧ c < 2 ^ n ∧ nI c = nI s ||| nI q ∧ ∀ z, Q0 z → bt (nI c) z = true := by
  have hn := h.n24
  have hA : ∀ k, bt (nI s) k = true → k < n := fun k hk => in_lt hs hk
  obtain ⟨b, hb, hAb⟩ := not_all hn hs hne
  have hpos := most_pos h hc hA ha hb hAb
  obtain ⟨Q, q1, q2, q3, q4⟩ := mostT_ex hn hA hQ h1 h2
  obtain ⟨q, e1, e2⟩ := msk_ex hn (fun z hz => (q2 z hz).1)
  obtain ⟨c, e3, e4⟩ := or_lt hn hs e1
  have hpc : pc32 (nI q) = mostT n f (nI s) := by
    rw [← q4, ← ctP_msk (fun k hk => by have := in_lt e1 hk; omega)]
    exact ctP_cg e2
  refine ⟨q, c, ⟨?_, e1, fun k hk => (q2 k ((e2 k).mp hk)).2, hpc, mA_cg (fun _ _ _ _ => rfl) (fun z => (e2 z).symm) q3⟩, e3, e4, fun z hz => by rw [e4, b_or, (e2 z).mpr (q1 z hz), Bool.or_true]⟩
  refine Nat.pos_of_ne_zero fun e => ?_
  rw [e, pc32_0] at hpc
  omega
theorem nM {n d v : Nat} {f : Nat → Int32} (h : nok n d f) (hc : conn n f (allB n)) (hv : v < n) : ∀ (r : Nat), (∀ r', r' < r → ¬ mF n f v r' (2 ^ n - 1)) → ∀ {c}, nF n f v r c → ∃ b, mF n f v r b ∧ ∀ k, bt (nI c) k = true → bt (nI b) k = true
  | 0, _, c, e => ⟨c, e, fun _ q => q⟩
  | r + 1, hr, c, e => by
    obtain ⟨h1, s, h2, h3, h4⟩ := e
    obtain ⟨b, b1_, b2_⟩ := nM h hc hv r (fun r' q => hr r' (by omega)) h3
    have hn := h.n24
    have hb := (fF_lt (f := f) hv).2 b1_
    have hne : b ≠ 2 ^ n - 1 := fun e => hr r (by omega) (by rw [← e]; exact b1_)
    obtain ⟨a, ha, hba⟩ := mFp hn hv b1_
    obtain ⟨g1, g2, g3⟩ := gp_nm hn (fun a b ha hb => h.sym ha hb) n 0 (nI s) (fun _ => none) (by omega) ⟨fun t z e => (by cases e), fun t u z e => (by cases e), fun z e => absurd (e.1.symm.trans e.2) (by decide)⟩ (fun t z e => (by cases e)) (fun _ q => q) (fun z q => in_lt h2 q) h4
    have g4 : mA (tg f (nI b)) (fun z => bt (nI c) z = true ∧ bt (nI b) z = false) := mA_mono (mA_sub g1 (fun z hz => ⟨hz.1, ff_of fun q => by rw [b2_ z q] at hz; cases hz.2⟩)) (fun z t _ q => tg_t.mpr ⟨(tg_t.mp q).1, b2_ t (tg_t.mp q).2⟩)
    obtain ⟨q, c', k1, k2, k3, k4⟩ := mStep h hc hb hba hne g4 (fun z hz => in_lt h1 hz.1) (fun z hz => hz.2)
    have hb0 : 0 < b := Nat.pos_of_ne_zero fun e => by rw [e, show bt (nI 0) a = false from b_0 a] at hba; cases hba
    refine ⟨c', ⟨k2, b, hb0, hb, b1_, q, k1, k3⟩, fun k hk => ?_⟩
    cases hbk : bt (nI b) k with
    | true => rw [k3, b_or, hbk]; rfl
    | false => exact k4 k ⟨hk, hbk⟩
theorem mF_end {n d v : Nat} {f : Nat → Int32} (h : nok n d f) (hc : conn n f (allB n)) (hv : v < n) : ∀ (r : Nat), (∃ r', r' ≤ r ∧ mF n f v r' (2 ^ n - 1)) ∨ (∃ b, mF n f v r b ∧ r + 1 ≤ pc32 (nI b))
  | 0 => Or.inr ⟨2 ^ v, rfl, by
      refine fb_ct_pos.mpr ⟨v, by have := h.n24; omega, ?_⟩
      rw [bt_pow h.n24 hv, decide_eq_true rfl]⟩
  | r + 1 => by
    rcases mF_end h hc hv r with ⟨r', a, b⟩ | ⟨b, b1_, b2_⟩
    · exact Or.inl ⟨r', by omega, b⟩
    · by_cases hne : b = 2 ^ n - 1
      · exact Or.inl ⟨r, by omega, by rw [← hne]; exact b1_⟩
      · have hn := h.n24
        have hb := (fF_lt (f := f) hv).2 b1_
        obtain ⟨a, ha, hba⟩ := mFp hn hv b1_
        obtain ⟨q, c', ⟨k1, k1b, k1c, k1d⟩, k2, k3, -⟩ := mStep h hc hb hba hne (Q0 := fun _ => False) ⟨fun _ => none, fun t z e => (by cases e), fun t u z e => (by cases e), fun z e => e.elim⟩ (fun z e => e.elim) (fun z e => e.elim)
        have hb0 : 0 < b := Nat.pos_of_ne_zero fun e => by rw [e, show bt (nI 0) a = false from b_0 a] at hba; cases hba
        refine Or.inr ⟨c', ⟨k2, b, hb0, hb, b1_, q, ⟨k1, k1b, k1c, k1d⟩, k3⟩, ?_⟩
        have e9 : pc32 (nI c') = pc32 (nI b) + pc32 (nI q) := by
          rw [k3]
          unfold pc32
          rw [← fb_ct_or (fun k _ z => by rw [k1c k z.2] at z; cases z.1)]
          exact fb_ct_cong fun k _ => b_or _ _ _
        have hq1 : 1 ≤ pc32 (nI q) := by
          refine fb_ct_pos.mpr (Classical.byContradiction fun z => ?_)
          have : nI q = nI 0 := bt_zero.mpr fun i hi => ff_of fun w => z ⟨i, hi, w⟩
          have hp : 2 ^ n ≤ 2 ^ 24 := Nat.pow_le_pow_right (by decide) hn
          have := (nI_eq (by omega) (by omega)).mp this
          omega
        omega
theorem tl_ex {n d v : Nat} {f : Nat → Int32} (h : nok n d f) (hc : conn n f (allB n)) (hv : v < n) : ∃ r, r ≤ 24 ∧ mF n f v r (2 ^ n - 1) := by
  rcases mF_end h hc hv 24 with ⟨r, a, b⟩ | ⟨b, b1_, b2_⟩
  · exact ⟨r, a, b⟩
  · have hb := (fF_lt (f := f) hv).2 b1_
    have := pc32_n (n := 24) (x := nI b) (by omega) (fun k hk => ff_of fun z => by have := in_lt hb z; have := h.n24; omega)
    have := fb_ct_le (bt (nI b)) 24
    omega
/-- the same round -/
theorem tl_same {n d v r r2 : Nat} {f : Nat → Int32} (h : nok n d f) (hc : conn n f (allB n)) (hv : v < n) (h1 : ∀ r', r' < r → ¬ nF n f v r' (2 ^ n - 1)) (h2 : nF n f v r (2 ^ n - 1)) (h3 : ∀ r', r' < r2 → ¬ mF n f v r' (2 ^ n - 1)) (h4 : mF n f v r2 (2 ^ n - 1)) : r = r2 := by
  have hn := h.n24
  rcases Nat.lt_trichotomy r r2 with q | q | q
  · obtain ⟨b, b1_, b2_⟩ := nM h hc hv r (fun r' z => h3 r' (by omega)) h2
    have hb := (fF_lt (f := f) hv).2 b1_
    refine absurd ?_ (h3 r q)
    by_cases e : b = 2 ^ n - 1
    · rw [← e]; exact b1_
    · obtain ⟨u, u1, u2⟩ := not_all hn hb e
      have := b2_ u (by rw [← al_nI hn]; exact al_t hn u1)
      rw [this] at u2; cases u2
  · exact q
  · exact absurd (mN h hv h4) (h1 r2 q)
end C9yh
