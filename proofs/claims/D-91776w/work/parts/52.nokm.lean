/-! nets stay whole: a line drawn, taken off, two changed -/
section C52
theorem bt_jn {f : Nat → Int32} {a b : Nat} (ha : a < 32) (hb : b < 32) (k i : Nat) : bt (jn f a b k) i = (bt (f k) i || (decide (k = a) && decide (i = b)) || (decide (k = b) && decide (i = a))) := by
  unfold jn
  simp only [upd_at]
  by_cases q1 : k = b
  · subst q1
    by_cases q2 : k = a
    · subst q2
      simp [bt_or1 _ ha]
    · simp [q2, bt_or1 _ ha]
  · by_cases q2 : k = a
    · subst q2
      simp [q1, bt_or1 _ hb]
    · simp [q1, q2]
theorem bt_pt {f : Nat → Int32} {a b : Nat} (ha : a < 32) (hb : b < 32) (k : Nat) {i : Nat} (hi : i < 32) : bt (pt f a b k) i = (bt (f k) i && !(decide (k = a) && decide (i = b)) && !(decide (k = b) && decide (i = a))) := by
  unfold pt
  rw [upd_at]
  by_cases q1 : k = b
  · subst q1
    rw [if_pos rfl, bt_clr _ ha hi, upd_at]
    by_cases q2 : k = a
    · subst q2
      rw [if_pos rfl, bt_clr _ ha hi]; simp
    · rw [if_neg q2]; simp [q2]
  · rw [if_neg q1, upd_at]
    by_cases q2 : k = a
    · subst q2
      rw [if_pos rfl, bt_clr _ hb hi]; simp [q1]
    · rw [if_neg q2]; simp [q1, q2]
theorem pc_on {x y : Int32} {k : Nat} (hk : k < 32) (h : bt x k = false) (hy : ∀ i, i < 32 → bt y i = (bt x i || decide (i = k))) : pc32 y = pc32 x + 1 := by
  unfold pc32
  have h1 := fb_ct_upd (bt x) true (n := 32) hk
  rw [h] at h1
  have h2 : fb_ct (bt y) 32 = fb_ct (fun i => if i = k then true else bt x i) 32 := fb_ct_cong fun i hi => by
    rw [hy i hi]
    by_cases q : i = k <;> simp [q]
  rw [h2]
  rw [if_neg (by decide), if_pos rfl] at h1
  omega
theorem pc_off {x y : Int32} {k : Nat} (hk : k < 32) (h : bt x k = true) (hy : ∀ i, i < 32 → bt y i = (bt x i && !decide (i = k))) : pc32 y + 1 = pc32 x := by
  unfold pc32
  have h1 := fb_ct_upd (bt x) false (n := 32) hk
  rw [h] at h1
  have h2 : fb_ct (bt y) 32 = fb_ct (fun i => if i = k then false else bt x i) 32 := fb_ct_cong fun i hi => by
    rw [hy i hi]
    by_cases q : i = k <;> simp [q]
  rw [h2]
  rw [if_pos rfl, if_neg (by decide)] at h1
  omega
theorem pc_jn {f : Nat → Int32} {a b : Nat} (ha : a < 32) (hb : b < 32) (hab : a ≠ b) (h1 : bt (f a) b = false) (h2 : bt (f b) a = false) (k : Nat) : pc32 (jn f a b k) = pc32 (f k) + (if k = a ∨ k = b then 1 else 0) := by
  by_cases q1 : k = a
  · subst q1
    rw [if_pos (Or.inl rfl)]
    refine pc_on hb h1 fun i hi => ?_
    rw [bt_jn ha hb]
    simp [hab]
  · by_cases q2 : k = b
    · subst q2
      rw [if_pos (Or.inr rfl)]
      refine pc_on ha h2 fun i hi => ?_
      rw [bt_jn ha hb]
      simp [q1]
    · rw [if_neg (by omega)]
      have : jn f a b k = f k := by unfold jn; rw [upd_at, if_neg q2, upd_at, if_neg q1]
      rw [this, Nat.add_zero]
theorem pc_pt {f : Nat → Int32} {a b : Nat} (ha : a < 32) (hb : b < 32) (hab : a ≠ b) (h1 : bt (f a) b = true) (h2 : bt (f b) a = true) (k : Nat) : pc32 (pt f a b k) + (if k = a ∨ k = b then 1 else 0) = pc32 (f k) := by
  by_cases q1 : k = a
  · subst q1
    rw [if_pos (Or.inl rfl)]
    refine pc_off hb h1 fun i hi => ?_
    rw [bt_pt ha hb k hi]
    simp [hab]
  · by_cases q2 : k = b
    · subst q2
      rw [if_pos (Or.inr rfl)]
      refine pc_off ha h2 fun i hi => ?_
      rw [bt_pt ha hb k hi]
      simp [q1]
    · rw [if_neg (by omega)]
      have : pt f a b k = f k := by unfold pt; rw [upd_at, if_neg q2, upd_at, if_neg q1]
      rw [this, Nat.add_zero]
theorem bt_hi {x : Int32} {b : Nat} (h : 32 ≤ b) : bt x b = false := b_big h
theorem nok_pt {n d : Nat} {f : Nat → Int32} {a b : Nat} (h : nok n d f) (ha : a < n) (hb : b < n) : nok n d (pt f a b) := by
  have h24 := h.n24
  have ha2 : a < 32 := by omega
  have hb2 : b < 32 := by omega
  have sub : ∀ k i, bt (pt f a b k) i = true → bt (f k) i = true := fun k i q => by
    rcases Nat.lt_or_ge i 32 with hi | hi
    · rw [bt_pt ha2 hb2 k hi] at q; simp only [Bool.and_eq_true] at q; exact q.1.1
    · rw [bt_hi hi] at q; cases q
  refine ⟨h.n1, h24, h.d1, h.d8, fun x y hx hy => ?_, fun x hx => ?_, fun x hx y hy => ?_, fun x hx => ?_, fun k h1 h2 => ?_⟩
  · rw [bt_pt ha2 hb2 x (show y < 32 by omega), bt_pt ha2 hb2 y (show x < 32 by omega), h.sym hx hy, Bool.and_assoc, Bool.and_assoc, Bool.and_comm (!(decide (x = a) && decide (y = b))), Bool.and_comm (decide (x = b)) (decide (y = a)), Bool.and_comm (decide (x = a)) (decide (y = b))]
  · cases q : bt (pt f a b x) x with
    | false => rfl
    | true => have := sub x x q; rw [h.irr hx] at this; cases this
  · cases q : bt (pt f a b x) y with
    | false => rfl
    | true => have := sub x y q; rw [h.out hx hy] at this; cases this
  · refine Nat.le_trans (fb_ct_sub fun i _ q => sub x i q) (h.deg hx)
  · have : pt f a b k = f k := by unfold pt; rw [upd_at, if_neg (by omega), upd_at, if_neg (by omega)]
    rw [this]; exact h.zero h1 h2
theorem mayJ_of {f : Nat → Int32} {d a b : Nat} (h1 : a ≠ b) (h2 : bt (f a) b = false) (h3 : pc32 (f a) < d) (h4 : pc32 (f b) < d) : mayJ f d a b = true := by
  unfold mayJ; simp [h1, h2, h3, h4]
theorem mayJ_to {f : Nat → Int32} {d a b : Nat} (h : mayJ f d a b = true) : a ≠ b ∧ bt (f a) b = false ∧ pc32 (f a) < d ∧ pc32 (f b) < d := by
  unfold mayJ at h
  simp only [Bool.and_eq_true, decide_eq_true_eq, Bool.not_eq_true'] at h
  exact ⟨h.1, h.2.1, h.2.2.1, h.2.2.2⟩
theorem nok_jn {n d : Nat} {f : Nat → Int32} {a b : Nat} (h : nok n d f) (ha : a < n) (hb : b < n) (hm : mayJ f d a b = true) : nok n d (jn f a b) := by
  have h24 := h.n24
  have ha2 : a < 32 := by omega
  have hb2 : b < 32 := by omega
  obtain ⟨m1, m2, m3, m4⟩ := mayJ_to hm
  refine ⟨h.n1, h24, h.d1, h.d8, fun x y hx hy => ?_, fun x hx => ?_, fun x hx y hy => ?_, fun x hx => ?_, fun k h1 h2 => ?_⟩
  · rw [bt_jn ha2 hb2, bt_jn ha2 hb2, h.sym hx hy, Bool.or_assoc, Bool.or_assoc, Bool.or_comm (decide (x = a) && decide (y = b)), Bool.and_comm (decide (x = b)) (decide (y = a)), Bool.and_comm (decide (x = a)) (decide (y = b))]
  · rw [bt_jn ha2 hb2, h.irr hx]
    by_cases q1 : x = a
    · by_cases q2 : x = b
      · exact absurd (q1.symm.trans q2) m1
      · simp [q2]
    · simp [q1]
  · rw [bt_jn ha2 hb2, h.out hx hy]
    simp [show ¬ y = a by omega, show ¬ y = b by omega]
  · rw [pc_jn ha2 hb2 m1 m2 ((h.sym ha hb).symm.trans m2)]
    by_cases q1 : x = a
    · subst q1; rw [if_pos (Or.inl rfl)]; omega
    · by_cases q2 : x = b
      · subst q2; rw [if_pos (Or.inr rfl)]; omega
      · have := h.deg hx
        rw [if_neg (by omega)]; omega
  · have : jn f a b k = f k := by unfold jn; rw [upd_at, if_neg (by omega), upd_at, if_neg (by omega)]
    rw [this]; exact h.zero h1 h2
theorem nok_0 {n d : Nat} (h1 : 1 ≤ n) (h2 : n ≤ 24) (h3 : 1 ≤ d) (h4 : d ≤ 8) : nok n d (fun _ => nI 0) :=
  ⟨h1, h2, h3, h4, fun a b _ _ => (b_0 b).trans (b_0 a).symm, fun a _ => b_0 a, fun a _ b _ => b_0 b, fun a _ => Nat.le_trans (Nat.le_of_eq pc32_0) (Nat.zero_le _), fun _ _ _ => rfl⟩
theorem nok_cong {n d : Nat} {f g : Nat → Int32} (h : nok n d f) (e : ∀ k, k < 24 → g k = f k) : nok n d g := by
  have h24 := h.n24
  refine ⟨h.n1, h24, h.d1, h.d8, fun a b ha hb => by rw [e a (by omega), e b (by omega)]; exact h.sym ha hb, fun a ha => by rw [e a (by omega)]; exact h.irr ha, fun a ha b hb => by rw [e a (by omega)]; exact h.out ha hb, fun a ha => by rw [e a (by omega)]; exact h.deg ha, fun k h1 h2 => by rw [e k h2]; exact h.zero h1 h2⟩
/-- two lines change their ends -/
def chok (f : Nat → Int32) (a b c e : Nat) : Bool := decide (a ≠ c) && (decide (a ≠ e) && (decide (b ≠ c) && (decide (b ≠ e) && (!bt (f a) c && !bt (f b) e))))
def chg (f : Nat → Int32) (a b c e : Nat) : Nat → Int32 := jn (jn (pt (pt f a b) c e) a c) b e
def chb (f : Nat → Int32) (a b c e : Nat) : Nat → Int32 := jn (jn (pt (pt f a c) b e) a b) c e
theorem chok_to {f : Nat → Int32} {a b c e : Nat} (h : chok f a b c e = true) : a ≠ c ∧ a ≠ e ∧ b ≠ c ∧ b ≠ e ∧ bt (f a) c = false ∧ bt (f b) e = false := by
  unfold chok at h
  simp only [Bool.and_eq_true, decide_eq_true_eq, Bool.not_eq_true'] at h
  exact ⟨h.1, h.2.1, h.2.2.1, h.2.2.2.1, h.2.2.2.2.1, h.2.2.2.2.2⟩
theorem chok_n1 {f : Nat → Int32} {a b c e : Nat} (h : a = c ∨ a = e ∨ b = c ∨ b = e ∨ bt (f a) c = true ∨ bt (f b) e = true) : chok f a b c e = false := by
  unfold chok
  rcases h with h | h | h | h | h | h <;> simp [h]
theorem chok_y {f : Nat → Int32} {a b c e : Nat} (h1 : ¬ a = c) (h2 : ¬ a = e) (h3 : ¬ b = c) (h4 : ¬ b = e) (h5 : bt (f a) c = false) (h6 : bt (f b) e = false) : chok f a b c e = true := by
  unfold chok; simp [h1, h2, h3, h4, h5, h6]
theorem nok_chg {n d : Nat} {f : Nat → Int32} {a b c e : Nat} (h : nok n d f) (ha : a < n) (hb : b < n) (hc : c < n) (he : e < n) (hab : a ≠ b) (hce : c ≠ e) (h1 : bt (f a) b = true) (h2 : bt (f c) e = true) (hk : chok f a b c e = true) :
    nok n d (chg f a b c e) ∧ ∀ k, pc32 (chg f a b c e k) = pc32 (f k) := by
  obtain ⟨k1, k2, k3, k4, k5, k6⟩ := chok_to hk
  have h24 := h.n24
  have a2 : a < 32 := by omega
  have b2 : b < 32 := by omega
  have c2 : c < 32 := by omega
  have e2 : e < 32 := by omega
  have p1 := nok_pt h ha hb
  have p2 := nok_pt p1 hc he
  have q1 := pc_pt a2 b2 hab h1 (by rw [← h.sym ha hb]; exact h1)
  have g1 : bt (pt f a b c) e = true := by rw [bt_pt a2 b2 c e2, h2]; simp [show ¬ c = a from fun z => k1 z.symm, show ¬ c = b from fun z => k3 z.symm]
  have q2 := pc_pt (f := pt f a b) c2 e2 hce g1 (by rw [← p1.sym hc he]; exact g1)
  have g2 : bt (pt (pt f a b) c e a) c = false := by rw [bt_pt c2 e2 a c2, bt_pt a2 b2 a c2, k5]; rfl
  have d1 : pc32 (pt (pt f a b) c e a) + 1 = pc32 (f a) := by
    have x1 := q1 a; have x2 := q2 a
    rw [if_pos (Or.inl rfl)] at x1
    rw [if_neg (by omega)] at x2
    omega
  have d2 : pc32 (pt (pt f a b) c e b) + 1 = pc32 (f b) := by
    have x1 := q1 b; have x2 := q2 b
    rw [if_pos (Or.inr rfl)] at x1
    rw [if_neg (by omega)] at x2
    omega
  have d3 : pc32 (pt (pt f a b) c e c) + 1 = pc32 (f c) := by
    have x1 := q1 c; have x2 := q2 c
    rw [if_neg (by omega)] at x1
    rw [if_pos (Or.inl rfl)] at x2
    omega
  have d4 : pc32 (pt (pt f a b) c e e) + 1 = pc32 (f e) := by
    have x1 := q1 e; have x2 := q2 e
    rw [if_neg (by omega)] at x1
    rw [if_pos (Or.inr rfl)] at x2
    omega
  have da := h.deg ha
  have db := h.deg hb
  have dc := h.deg hc
  have de := h.deg he
  have p3 := nok_jn p2 ha hc (mayJ_of k1 g2 (by omega) (by omega))
  have q3 := pc_jn (f := pt (pt f a b) c e) a2 c2 k1 g2 (by rw [← p2.sym ha hc]; exact g2)
  have g3 : bt (jn (pt (pt f a b) c e) a c b) e = false := by
    rw [bt_jn a2 c2, bt_pt c2 e2 b e2, bt_pt a2 b2 b e2, k6]
    simp [show ¬ b = a from fun z => hab z.symm, k3]
  have y1 := q3 b
  have y2 := q3 e
  rw [if_neg (by omega)] at y1 y2
  have p4 := nok_jn p3 hb he (mayJ_of k4 g3 (by omega) (by omega))
  have q4 := pc_jn (f := jn (pt (pt f a b) c e) a c) b2 e2 k4 g3 (by rw [← p3.sym hb he]; exact g3)
  refine ⟨p4, fun k => ?_⟩
  have x1 := q1 k
  have x2 := q2 k
  have x3 := q3 k
  have x4 := q4 k
  show pc32 (jn (jn (pt (pt f a b) c e) a c) b e k) = _
  by_cases z1 : k = a
  · rw [if_pos (Or.inl z1)] at x1 x3; rw [if_neg (by omega)] at x2 x4; omega
  · by_cases z2 : k = b
    · rw [if_pos (Or.inr z2)] at x1; rw [if_pos (Or.inl z2)] at x4; rw [if_neg (by omega)] at x2 x3; omega
    · by_cases z3 : k = c
      · rw [if_pos (Or.inl z3)] at x2; rw [if_pos (Or.inr z3)] at x3; rw [if_neg (by omega)] at x1 x4; omega
      · by_cases z4 : k = e
        · rw [if_pos (Or.inr z4)] at x2 x4; rw [if_neg (by omega)] at x1 x3; omega
        · rw [if_neg (by omega)] at x1 x2 x3 x4; omega
theorem chb_chg {n d : Nat} {f : Nat → Int32} {a b c e : Nat} (h : nok n d f) (ha : a < n) (hb : b < n) (hc : c < n) (he : e < n) (hab : a ≠ b) (hce : c ≠ e) (h1 : bt (f a) b = true) (h2 : bt (f c) e = true) (hk : chok f a b c e = true) : chb (chg f a b c e) a b c e = f := by
  obtain ⟨k1, k2, k3, k4, k5, k6⟩ := chok_to hk
  have h24 := h.n24
  have a2 : a < 32 := by omega
  have b2 : b < 32 := by omega
  have c2 : c < 32 := by omega
  have e2 : e < 32 := by omega
  have s1 : bt (f b) a = true := by rw [← h.sym ha hb]; exact h1
  have s2 : bt (f e) c = true := by rw [← h.sym hc he]; exact h2
  have s5 : bt (f c) a = false := by rw [← h.sym ha hc]; exact k5
  have s6 : bt (f e) b = false := by rw [← h.sym hb he]; exact k6
  have hout : ∀ g : Nat → Int32, ∀ k, k ≠ a → k ≠ b → k ≠ c → k ≠ e → (∀ x y, (x = a ∨ x = b ∨ x = c ∨ x = e) → (y = a ∨ y = b ∨ y = c ∨ y = e) → jn g x y k = g k ∧ pt g x y k = g k) := fun g k z1 z2 z3 z4 x y hx hy => by
    constructor
    · unfold jn; rw [upd_at, if_neg (by omega), upd_at, if_neg (by omega)]
    · unfold pt; rw [upd_at, if_neg (by omega), upd_at, if_neg (by omega)]
  funext k
  by_cases hk4 : k ≠ a ∧ k ≠ b ∧ k ≠ c ∧ k ≠ e
  · obtain ⟨z1, z2, z3, z4⟩ := hk4
    have H := fun g => hout g k z1 z2 z3 z4
    unfold chb chg
    rw [(H _ c e (by simp) (by simp)).1, (H _ a b (by simp) (by simp)).1, (H _ b e (by simp) (by simp)).2, (H _ a c (by simp) (by simp)).2, (H _ b e (by simp) (by simp)).1, (H _ a c (by simp) (by simp)).1, (H _ c e (by simp) (by simp)).2, (H _ a b (by simp) (by simp)).2]
  · refine b_ext fun i hi => ?_
    unfold chb chg
    rw [bt_jn c2 e2, bt_jn a2 b2, bt_pt b2 e2 _ hi, bt_pt a2 c2 _ hi, bt_jn b2 e2, bt_jn a2 c2, bt_pt c2 e2 _ hi, bt_pt a2 b2 _ hi]
    have r1 : ¬ b = a := fun z => hab z.symm
    have r2 : ¬ c = a := fun z => k1 z.symm
    have r3 : ¬ e = a := fun z => k2 z.symm
    have r4 : ¬ c = b := fun z => k3 z.symm
    have r5 : ¬ e = b := fun z => k4 z.symm
    have r6 : ¬ e = c := fun z => hce z.symm
    by_cases z1 : k = a
    · subst z1
      by_cases y1 : i = b
      · subst y1; simp [h1, hab, k1, k2, k3, k4, hce, r1, r2, r3, r4, r5, r6]
      · by_cases y2 : i = c
        · subst y2; simp [k5, hab, k1, k2, k3, k4, hce, r1, r2, r3, r4, r5, r6]
        · simp [y1, y2, hab, k1, k2, k3, k4, hce, r1, r2, r3, r4, r5, r6]
    · by_cases z2 : k = b
      · subst z2
        by_cases y1 : i = a
        · subst y1; simp [s1, hab, k1, k2, k3, k4, hce, r1, r2, r3, r4, r5, r6]
        · by_cases y2 : i = e
          · subst y2; simp [k6, hab, k1, k2, k3, k4, hce, r1, r2, r3, r4, r5, r6]
          · simp [y1, y2, hab, k1, k2, k3, k4, hce, r1, r2, r3, r4, r5, r6]
      · by_cases z3 : k = c
        · subst z3
          by_cases y1 : i = e
          · subst y1; simp [h2, hab, k1, k2, k3, k4, hce, r1, r2, r3, r4, r5, r6]
          · by_cases y2 : i = a
            · subst y2; simp [s5, hab, k1, k2, k3, k4, hce, r1, r2, r3, r4, r5, r6]
            · simp [y1, y2, hab, k1, k2, k3, k4, hce, r1, r2, r3, r4, r5, r6]
        · have z4 : k = e := by omega
          subst z4
          by_cases y1 : i = c
          · subst y1; simp [s2, hab, k1, k2, k3, k4, hce, r1, r2, r3, r4, r5, r6]
          · by_cases y2 : i = b
            · subst y2; simp [s6, hab, k1, k2, k3, k4, hce, r1, r2, r3, r4, r5, r6]
            · simp [y1, y2, hab, k1, k2, k3, k4, hce, r1, r2, r3, r4, r5, r6]
theorem prs_chg {n d : Nat} {f : Nat → Int32} {a b c e : Nat} (h : nok n d f) (ha : a < n) (hb : b < n) (hc : c < n) (he : e < n) (hab : a ≠ b) (hce : c ≠ e) (h1 : bt (f a) b = true) (h2 : bt (f c) e = true) (hk : chok f a b c e = true) : (prs n (chg f a b c e)).length = (prs n f).length := by
  obtain ⟨p1, p2⟩ := nok_chg h ha hb hc he hab hce h1 h2 hk
  have x1 := prs_len h.sy
  have x2 := prs_len p1.sy
  rw [fb_sm_cong (g := fun k => pc32 (f k)) (fun k _ => p2 k)] at x2
  omega
/-- the ends of two lines, crossed or not -/
def c3 (l : List (Nat × Nat)) (q : Nat) (cr : Bool) : Nat := if cr then lb l q else la l q
def c4 (l : List (Nat × Nat)) (q : Nat) (cr : Bool) : Nat := if cr then la l q else lb l q
theorem c34 {n d : Nat} {f : Nat → Int32} (h : nok n d f) {q : Nat} (hq : q < (prs n f).length) (cr : Bool) : c3 (prs n f) q cr < n ∧ c4 (prs n f) q cr < n ∧ c3 (prs n f) q cr ≠ c4 (prs n f) q cr ∧ bt (f (c3 (prs n f) q cr)) (c4 (prs n f) q cr) = true := by
  obtain ⟨p1, p2, p3⟩ := prs_at hq
  cases cr
  · exact ⟨Nat.lt_trans p1 p2, p2, Nat.ne_of_lt p1, p3⟩
  · exact ⟨p2, Nat.lt_trans p1 p2, fun e => by have : lb (prs n f) q = la (prs n f) q := e; omega, by
      show bt (f (lb (prs n f) q)) (la (prs n f) q) = true
      rw [h.sym p2 (by omega)]; exact p3⟩
def cok (n : Nat) (f : Nat → Int32) (i j : Nat) (cr : Bool) : Bool := chok f (la (prs n f) i) (lb (prs n f) i) (c3 (prs n f) j cr) (c4 (prs n f) j cr)
def cgo (n : Nat) (f : Nat → Int32) (i j : Nat) (cr : Bool) : Nat → Int32 := chg f (la (prs n f) i) (lb (prs n f) i) (c3 (prs n f) j cr) (c4 (prs n f) j cr)
theorem cgo_ok {n d : Nat} {f : Nat → Int32} (h : nok n d f) {i j : Nat} {cr : Bool} (hi : i < (prs n f).length) (hj : j < (prs n f).length) (hk : cok n f i j cr = true) : nok n d (cgo n f i j cr) ∧ (prs n (cgo n f i j cr)).length = (prs n f).length ∧ chb (cgo n f i j cr) (la (prs n f) i) (lb (prs n f) i) (c3 (prs n f) j cr) (c4 (prs n f) j cr) = f := by
  obtain ⟨p1, p2, p3⟩ := prs_at hi
  obtain ⟨q1, q2, q3, q4⟩ := c34 h hj cr
  exact ⟨(nok_chg h (by omega) p2 q1 q2 (by omega) q3 p3 q4 hk).1, prs_chg h (by omega) p2 q1 q2 (by omega) q3 p3 q4 hk, chb_chg h (by omega) p2 q1 q2 (by omega) q3 p3 q4 hk⟩
end C52
