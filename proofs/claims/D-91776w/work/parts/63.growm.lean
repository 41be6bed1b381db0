/-! nets that grow -/
section C63
theorem frs_cong {n : Nat} {f g : Nat → Int32} (h : ∀ k, k < n → f k = g k) (st : Int32) (s d : Nat) : fr n f st s d = fr n g st s d ∧ sn n f st s d = sn n g st s d := by
  have e := fr_cong (st := st) (s := s) h d
  exact ⟨congrArg Prod.fst e, congrArg Prod.snd e⟩
theorem eccm_cong {n : Nat} {f g : Nat → Int32} (h : ∀ k, k < n → f k = g k) (st : Int32) (s : Nat) : ∀ m, eccm n f st s m = eccm n g st s m
  | 0 => rfl
  | m + 1 => by
    unfold eccm
    rw [(frs_cong h st s m).1, eccm_cong h st s m]
theorem cfa_cong {n : Nat} {f g : Nat → Int32} (h : ∀ k, k < n → f k = g k) (st : Int32) : ∀ j, cfa n f st j = cfa n g st j
  | 0 => rfl
  | j + 1 => by
    have e1 : ecc n f st j = ecc n g st j := eccm_cong h st j 32
    have e2 := (frs_cong h st j 32).2
    unfold cfa
    rw [cfa_cong h st j, e1, e2]
theorem cpr_cong {n : Nat} {f g : Nat → Int32} (h : ∀ k, k < n → f k = g k) : cpr n f = cpr n g := by
  have e1 : csm n f = csm n g := by
    unfold csm
    refine fb_sm_cong fun k _ => ?_
    unfold crs
    exact fb_sm_cong fun e _ => by rw [(frs_cong h (allB n) k e).1]
  unfold cpr
  rw [cfa_cong h (allB n) 32, e1]
def gr1 (f : Nat → Int32) (n a b : Nat) : Nat → Int32 := jn (jn (pt f a b) a n) b n
def bk1 (f : Nat → Int32) (n a b : Nat) : Nat → Int32 := pt (pt (jn f a b) a n) b n
theorem nok_up {n d d' : Nat} {f : Nat → Int32} (h : nok n d f) (hn : n < 24) (hd : d ≤ d') (hd' : d' ≤ 8) : nok (n + 1) d' f := by
  have hz : f n = nI 0 := h.zero (Nat.le_refl _) hn
  have hrow : ∀ a, bt (f n) a = false := fun a => by rw [hz]; exact b_0 a
  have h1 := h.d1
  refine ⟨by omega, by omega, by omega, hd', fun a b ha hb => ?_, fun a ha => ?_, fun a ha b hb => ?_, fun a ha => ?_, fun k h1 h2 => h.zero (by omega) h2⟩
  · by_cases q1 : a = n
    · subst q1
      by_cases q2 : b = a
      · rw [q2]
      · rw [hrow, h.out (show b < a by omega) (Nat.le_refl _)]
    · by_cases q2 : b = n
      · subst q2
        rw [hrow, h.out (show a < b by omega) (Nat.le_refl _)]
      · exact h.sym (by omega) (by omega)
  · by_cases q1 : a = n
    · subst q1; exact hrow _
    · exact h.irr (by omega)
  · by_cases q1 : a = n
    · subst q1; exact hrow _
    · exact h.out (by omega) (by omega)
  · by_cases q1 : a = n
    · subst q1; rw [hz]; exact Nat.le_trans (Nat.le_of_eq pc32_0) (Nat.zero_le _)
    · exact Nat.le_trans (h.deg (by omega)) hd
theorem gr1_ok {n d : Nat} {f : Nat → Int32} {a b c : Nat} (h : nok (n + 1) d f) (ha : a < n) (hb : b < n) (hab : a ≠ b) (h1 : bt (f a) b = true) (hna : bt (f n) a = false) (hnb : bt (f n) b = false) (hp : pc32 (f n) = c) (hc : c + 2 ≤ d) :
    nok (n + 1) d (gr1 f n a b) ∧ pc32 (gr1 f n a b n) = c + 2 ∧ ∀ x y, x < n → y < n → bt (gr1 f n a b x) y = (bt (f x) y && !(decide (x = a) && decide (y = b)) && !(decide (x = b) && decide (y = a))) ∧ bt (gr1 f n a b n) y = (bt (f n) y || decide (y = a) || decide (y = b)) := by
  have h24 := h.n24
  have a2 : a < 32 := by omega
  have b2 : b < 32 := by omega
  have n2 : n < 32 := by omega
  have s1 : bt (f b) a = true := by rw [← h.sym (show a < n + 1 by omega) (show b < n + 1 by omega)]; exact h1
  have p1 := nok_pt h (show a < n + 1 by omega) (show b < n + 1 by omega)
  have q1 := pc_pt a2 b2 hab h1 s1
  have x1 := q1 a
  have x2 := q1 b
  have x3 := q1 n
  rw [if_pos (Or.inl rfl)] at x1
  rw [if_pos (Or.inr rfl)] at x2
  rw [if_neg (by omega)] at x3
  have da := h.deg (show a < n + 1 by omega)
  have db := h.deg (show b < n + 1 by omega)
  have g1 : bt (pt f a b a) n = false := by
    rw [bt_pt a2 b2 a n2, h.sym (show a < n + 1 by omega) (show n < n + 1 by omega), hna]; rfl
  have p2 := nok_jn p1 (show a < n + 1 by omega) (show n < n + 1 by omega) (mayJ_of (by omega) g1 (by omega) (by omega))
  have q2 := pc_jn (f := pt f a b) a2 n2 (by omega) g1 (by rw [← p1.sym (show a < n + 1 by omega) (show n < n + 1 by omega)]; exact g1)
  have y2 := q2 b
  have y3 := q2 n
  rw [if_neg (by omega)] at y2
  rw [if_pos (Or.inr rfl)] at y3
  have g2 : bt (jn (pt f a b) a n b) n = false := by
    rw [bt_jn a2 n2, bt_pt a2 b2 b n2, h.sym (show b < n + 1 by omega) (show n < n + 1 by omega), hnb]
    simp [show ¬ b = a from fun z => hab z.symm, show ¬ b = n by omega]
  have p3 := nok_jn p2 (show b < n + 1 by omega) (show n < n + 1 by omega) (mayJ_of (by omega) g2 (by omega) (by omega))
  have q3 := pc_jn (f := jn (pt f a b) a n) b2 n2 (by omega) g2 (by rw [← p2.sym (show b < n + 1 by omega) (show n < n + 1 by omega)]; exact g2)
  have z3 := q3 n
  rw [if_pos (Or.inr rfl)] at z3
  refine ⟨p3, by show pc32 (jn (jn (pt f a b) a n) b n n) = c + 2; omega, fun x y hx hy => ⟨?_, ?_⟩⟩
  · show bt (jn (jn (pt f a b) a n) b n x) y = _
    rw [bt_jn b2 n2, bt_jn a2 n2, bt_pt a2 b2 x (show y < 32 by omega)]
    simp [show ¬ y = n by omega, show ¬ x = n by omega]
  · show bt (jn (jn (pt f a b) a n) b n n) y = _
    rw [bt_jn b2 n2, bt_jn a2 n2, bt_pt a2 b2 n (show y < 32 by omega)]
    simp [show ¬ n = a by omega, show ¬ n = b by omega, show ¬ y = n by omega]
theorem bk1_gr1 {n d : Nat} {f : Nat → Int32} {a b : Nat} (h : nok (n + 1) d f) (ha : a < n) (hb : b < n) (hab : a ≠ b) (h1 : bt (f a) b = true) (hna : bt (f n) a = false) (hnb : bt (f n) b = false) : bk1 (gr1 f n a b) n a b = f := by
  have h24 := h.n24
  have a2 : a < 32 := by omega
  have b2 : b < 32 := by omega
  have n2 : n < 32 := by omega
  have s1 : bt (f b) a = true := by rw [← h.sym (show a < n + 1 by omega) (show b < n + 1 by omega)]; exact h1
  have s2 : bt (f a) n = false := by rw [h.sym (show a < n + 1 by omega) (show n < n + 1 by omega)]; exact hna
  have s3 : bt (f b) n = false := by rw [h.sym (show b < n + 1 by omega) (show n < n + 1 by omega)]; exact hnb
  have r1 : ¬ a = n := by omega
  have r2 : ¬ b = n := by omega
  have r3 : ¬ n = a := by omega
  have r4 : ¬ n = b := by omega
  have r5 : ¬ b = a := fun z => hab z.symm
  funext k
  by_cases hk : k ≠ a ∧ k ≠ b ∧ k ≠ n
  · obtain ⟨z1, z2, z3⟩ := hk
    unfold bk1 gr1 pt jn
    simp only [upd_at, if_neg z1, if_neg z2, if_neg z3]
  · refine b_ext fun i hi => ?_
    unfold bk1 gr1
    rw [bt_pt b2 n2 _ hi, bt_pt a2 n2 _ hi, bt_jn a2 b2, bt_jn b2 n2, bt_jn a2 n2, bt_pt a2 b2 _ hi]
    by_cases z1 : k = a
    · subst z1
      by_cases y1 : i = b
      · subst y1; simp [h1, hab, r1, r2, r3, r4, r5]
      · by_cases y2 : i = n
        · subst y2; simp [s2, hab, r1, r2, r3, r4, r5]
        · simp [y1, y2, hab, r1, r2, r3, r4, r5]
    · by_cases z2 : k = b
      · subst z2
        by_cases y1 : i = a
        · subst y1; simp [s1, hab, r1, r2, r3, r4, r5]
        · by_cases y2 : i = n
          · subst y2; simp [s3, hab, r1, r2, r3, r4, r5]
          · simp [y1, y2, hab, r1, r2, r3, r4, r5]
      · have z3 : k = n := by omega
        subst z3
        by_cases y1 : i = a
        · subst y1; simp [hna, hab, r1, r2, r3, r4, r5]
        · by_cases y2 : i = b
          · subst y2; simp [hnb, hab, r1, r2, r3, r4, r5]
          · simp [y1, y2, hab, r1, r2, r3, r4, r5]
def apr (l : List (Nat × Nat)) (i j : Nat) : Bool := decide (la l i ≠ la l j) && (decide (la l i ≠ lb l j) && (decide (lb l i ≠ la l j) && decide (lb l i ≠ lb l j)))
theorem apr_to {l : List (Nat × Nat)} {i j : Nat} (h : apr l i j = true) : la l i ≠ la l j ∧ la l i ≠ lb l j ∧ lb l i ≠ la l j ∧ lb l i ≠ lb l j := by
  unfold apr at h
  simp only [Bool.and_eq_true, decide_eq_true_eq] at h
  exact ⟨h.1, h.2.1, h.2.2.1, h.2.2.2⟩
def gw1 (n : Nat) (f : Nat → Int32) (i : Nat) : Nat → Int32 := gr1 f n (la (prs n f) i) (lb (prs n f) i)
def gw2 (n : Nat) (f : Nat → Int32) (i j : Nat) : Nat → Int32 := gr1 (gw1 n f i) n (la (prs n f) j) (lb (prs n f) j)
theorem gw1_ok {n d d' : Nat} {f : Nat → Int32} {i : Nat} (h : nok n d f) (hn : n < 24) (hd : d ≤ d') (h2 : 2 ≤ d') (hd' : d' ≤ 8) (hi : i < (prs n f).length) : nok (n + 1) d' (gw1 n f i) ∧ pc32 (gw1 n f i n) = 2 ∧ (∀ x y, x < n → y < n → bt (gw1 n f i x) y = (bt (f x) y && !(decide (x = la (prs n f) i) && decide (y = lb (prs n f) i)) && !(decide (x = lb (prs n f) i) && decide (y = la (prs n f) i))) ∧ bt (gw1 n f i n) y = (decide (y = la (prs n f) i) || decide (y = lb (prs n f) i))) ∧ bk1 (gw1 n f i) n (la (prs n f) i) (lb (prs n f) i) = f := by
  obtain ⟨p1, p2, p3⟩ := prs_at hi
  have hz : f n = nI 0 := h.zero (Nat.le_refl _) hn
  have hr : ∀ y, bt (f n) y = false := fun y => by rw [hz]; exact b_0 y
  have hu := nok_up h hn hd hd'
  obtain ⟨g1, g2, g3⟩ := gr1_ok (c := 0) hu (show la (prs n f) i < n by omega) p2 (by omega) p3 (hr _) (hr _) (by rw [hz]; exact pc32_0) (by omega)
  refine ⟨g1, g2, fun x y hx hy => ⟨(g3 x y hx hy).1, ?_⟩, bk1_gr1 hu (by omega) p2 (by omega) p3 (hr _) (hr _)⟩
  have := (g3 x y hx hy).2
  rw [hr, Bool.false_or] at this
  exact this
theorem gw2_ok {n d d' : Nat} {f : Nat → Int32} {i j : Nat} (h : nok n d f) (hn : n < 24) (hd : d ≤ d') (h2 : 4 ≤ d') (hd' : d' ≤ 8) (hi : i < (prs n f).length) (hj : j < (prs n f).length) (hap : apr (prs n f) i j = true) : nok (n + 1) d' (gw2 n f i j) ∧ bk1 (gw2 n f i j) n (la (prs n f) j) (lb (prs n f) j) = gw1 n f i := by
  obtain ⟨p1, p2, p3⟩ := prs_at hj
  obtain ⟨k1, k2, k3, k4⟩ := apr_to hap
  have m1 : ¬ la (prs n f) j = la (prs n f) i := fun z => k1 z.symm
  have m2 : ¬ lb (prs n f) j = la (prs n f) i := fun z => k2 z.symm
  have m3 : ¬ la (prs n f) j = lb (prs n f) i := fun z => k3 z.symm
  have m4 : ¬ lb (prs n f) j = lb (prs n f) i := fun z => k4 z.symm
  obtain ⟨g1, g2, g3, -⟩ := gw1_ok h hn hd (by omega) hd' hi
  obtain ⟨e1, e2⟩ := g3 (la (prs n f) j) (lb (prs n f) j) (by omega) p2
  obtain ⟨e3, e4⟩ := g3 (lb (prs n f) j) (la (prs n f) j) p2 (by omega)
  have c1 : bt (gw1 n f i (la (prs n f) j)) (lb (prs n f) j) = true := by
    rw [e1, p3]; simp [m1, m3]
  have c2 : bt (gw1 n f i n) (lb (prs n f) j) = false := by rw [e2]; simp [m2, m4]
  have c3 : bt (gw1 n f i n) (la (prs n f) j) = false := by rw [e4]; simp [m1, m3]
  obtain ⟨f1, f2, f3⟩ := gr1_ok (c := 2) g1 (show la (prs n f) j < n by omega) p2 (by omega) c1 c3 c2 g2 (by omega)
  exact ⟨f1, bk1_gr1 g1 (by omega) p2 (by omega) c1 c3 c2⟩
theorem gr1_cong {f g : Nat → Int32} (h : ∀ k, k < 24 → g k = f k) {n a b : Nat} (hn : n < 24) (ha : a < 24) (hb : b < 24) : ∀ k, k < 24 → gr1 g n a b k = gr1 f n a b k :=
  fun k hk => jn_cong (fun k hk => jn_cong (fun k hk => pt_cong h ha hb hk) ha hn hk) hb hn hk
theorem bk1_cong {f g : Nat → Int32} (h : ∀ k, k < 24 → g k = f k) {n a b : Nat} (hn : n < 24) (ha : a < 24) (hb : b < 24) : ∀ k, k < 24 → bk1 g n a b k = bk1 f n a b k :=
  fun k hk => pt_cong (fun k hk => pt_cong (fun k hk => jn_cong h ha hb hk) ha hn hk) hb hn hk
-- the best of the pulls
def ga1 (n : Nat) (f : Nat → Int32) : Nat → MS
  | 0 => none
  | i + 1 => msx (ga1 n f i) i 0 (cpr (n + 1) (gw1 n f i))
def gb2 (n : Nat) (f : Nat → Int32) (i : Nat) (s : MS) : Nat → MS
  | 0 => s
  | j + 1 => if i < j ∧ apr (prs n f) i j = true then msx (gb2 n f i s j) i j (cpr (n + 1) (gw2 n f i j)) else gb2 n f i s j
def ga2 (n : Nat) (f : Nat → Int32) : Nat → MS
  | 0 => none
  | i + 1 => gb2 n f i (ga2 n f i) (prs n f).length
theorem gb2_lo {n : Nat} {f : Nat → Int32} {i : Nat} {s : MS} : ∀ j, j ≤ i + 1 → gb2 n f i s j = s
  | 0, _ => rfl
  | j + 1, h => by rw [gb2, if_neg (by omega), gb2_lo j (by omega)]
theorem gb2_y {n : Nat} {f : Nat → Int32} {i j : Nat} {s : MS} (h : i < j) (h2 : apr (prs n f) i j = true) : gb2 n f i s (j + 1) = msx (gb2 n f i s j) i j (cpr (n + 1) (gw2 n f i j)) := by rw [gb2, if_pos ⟨h, h2⟩]
theorem gb2_n {n : Nat} {f : Nat → Int32} {i j : Nat} {s : MS} (h2 : apr (prs n f) i j = false) : gb2 n f i s (j + 1) = gb2 n f i s j := by rw [gb2, if_neg (by rw [h2]; simp)]
def gok (n : Nat) (f : Nat → Int32) (two : Bool) (s : MS) : Prop := ∀ q, s = some q → q.1 < (prs n f).length ∧ q.2.1 < (prs n f).length ∧ q.2.2 ≤ 1000000 ∧ (two = true → apr (prs n f) q.1 q.2.1 = true)
theorem gok_x {n : Nat} {f : Nat → Int32} {two : Bool} {s : MS} {i j v : Nat} (h : gok n f two s) (hi : i < (prs n f).length) (hj : j < (prs n f).length) (hv : v ≤ 1000000) (ht : two = true → apr (prs n f) i j = true) : gok n f two (msx s i j v) := fun q hq => by
  unfold msx at hq
  split at hq
  · cases hq; exact ⟨hi, hj, hv, ht⟩
  · split at hq
    · cases hq; exact ⟨hi, hj, hv, ht⟩
    · cases hq; exact h _ rfl
theorem ga1_ok {n : Nat} {f : Nat → Int32} (hn : n < 24) : ∀ i, i ≤ (prs n f).length → gok n f false (ga1 n f i)
  | 0, _ => fun q hq => nomatch hq
  | i + 1, h => gok_x (ga1_ok hn i (by omega)) (by omega) (by omega) (cpr_bd _ (by omega)) (fun q => nomatch q)
theorem gb2_ok {n : Nat} {f : Nat → Int32} {i : Nat} {s : MS} (hn : n < 24) (hi : i < (prs n f).length) (h : gok n f true s) : ∀ j, j ≤ (prs n f).length → gok n f true (gb2 n f i s j)
  | 0, _ => h
  | j + 1, hj => by
    unfold gb2
    split
    · rename_i hc
      exact gok_x (gb2_ok hn hi h j (by omega)) hi (by omega) (cpr_bd _ (by omega)) (fun _ => hc.2)
    · exact gb2_ok hn hi h j (by omega)
theorem ga2_ok {n : Nat} {f : Nat → Int32} (hn : n < 24) : ∀ i, i ≤ (prs n f).length → gok n f true (ga2 n f i)
  | 0, _ => fun q hq => nomatch hq
  | i + 1, h => gb2_ok hn (by omega) (ga2_ok hn i (by omega)) _ (Nat.le_refl _)
theorem b1_and {a b c e : Nat} (ha : a < 32) (hb : b < 32) (hc : c < 32) (he : e < 32) : (b1 a ||| b1 b) &&& (b1 c ||| b1 e) = 0 ↔ a ≠ c ∧ a ≠ e ∧ b ≠ c ∧ b ≠ e := by
  constructor
  · intro h
    have hz : ∀ i, i < 32 → bt ((b1 a ||| b1 b) &&& (b1 c ||| b1 e)) i = false := fun i hi => by rw [h]; exact b_0 i
    have h1 := hz a ha
    have h2 := hz b hb
    rw [b_and, b_or, b_or, bt_b1 ha, bt_b1 hb, bt_b1 hc, bt_b1 he] at h1 h2
    simp only [decide_true, Bool.true_or, Bool.or_true, Bool.true_and, Bool.or_eq_false_iff, decide_eq_false_iff_not] at h1 h2
    exact ⟨h1.1, h1.2, h2.1, h2.2⟩
  · rintro ⟨h1, h2, h3, h4⟩
    refine b_ext fun i hi => ?_
    rw [b_and, b_or, b_or, bt_b1 ha, bt_b1 hb, bt_b1 hc, bt_b1 he, show bt 0 i = false from b_0 i]
    by_cases q1 : i = a
    · subst q1; simp [h1, h2]
    · by_cases q2 : i = b
      · subst q2; simp [h3, h4]
      · simp [q1, q2]
end C63
