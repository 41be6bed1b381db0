/-! glued: what it is -/
section C97
def glR (kd nx : Nat) (fp fq : Nat → Int32) (u v : Nat) : Bool := (decide (u / nx = v / nx) && ((decide (kd = 0) || decide (u / nx = 0)) && bt (fp (u % nx)) (v % nx))) || (decide (u % nx = v % nx) && bt (fq (u / nx)) (v / nx))
def cgl (kd nx : Nat) (fp fq : Nat → Int32) (k : Nat) (f : Nat → Int32) : Nat → Nat → Int32
  | 0 => f
  | l + 1 => if glR kd nx fp fq k l = true then jn (cgl kd nx fp fq k f l) k l else cgl kd nx fp fq k f l
def cgk (kd nx : Nat) (fp fq : Nat → Int32) : Nat → Nat → Int32
  | 0 => fun _ => nI 0
  | k + 1 => cgl kd nx fp fq k (cgk kd nx fp fq k) k
def mg1 (kd nx : Nat) (fp : Nat → Int32) (q p : Nat) (f : Nat → Int32) : Nat → Nat → Int32
  | 0 => f
  | r + 1 => if (kd = 0 ∨ q = 0) ∧ bt (fp p) r = true then jn (mg1 kd nx fp q p f r) (p + nx * q) (r + nx * q) else mg1 kd nx fp q p f r
def mg2 (nx : Nat) (fq : Nat → Int32) (q p : Nat) (f : Nat → Int32) : Nat → Nat → Int32
  | 0 => f
  | r + 1 => if bt (fq q) r = true then jn (mg2 nx fq q p f r) (p + nx * q) (p + nx * r) else mg2 nx fq q p f r
def mgp (kd nx ny : Nat) (fp fq : Nat → Int32) (q : Nat) (f : Nat → Int32) : Nat → Nat → Int32
  | 0 => f
  | p + 1 => mg2 nx fq q p (mg1 kd nx fp q p (mgp kd nx ny fp fq q f p) nx) ny
def mgq (kd nx ny : Nat) (fp fq : Nat → Int32) : Nat → Nat → Int32
  | 0 => fun _ => nI 0
  | q + 1 => mgp kd nx ny fp fq q (mgq kd nx ny fp fq q) nx
abbrev pr2 (u v x y : Nat) : Prop := u = x ∧ v = y ∨ u = y ∧ v = x
theorem bt_jnP {f : Nat → Int32} {x y u v : Nat} (hx : x < 32) (hy : y < 32) : bt (jn f x y u) v = true ↔ bt (f u) v = true ∨ pr2 u v x y := by
  rw [bt_jn hx hy]
  simp only [Bool.or_eq_true, Bool.and_eq_true, decide_eq_true_eq]
  constructor
  · rintro ((h | h) | h)
    · exact Or.inl h
    · exact Or.inr (Or.inl h)
    · exact Or.inr (Or.inr h)
  · rintro (h | h | h)
    · exact Or.inl (Or.inl h)
    · exact Or.inl (Or.inr h)
    · exact Or.inr h
/-- a fold of joins -/
theorem fold_b {g : Nat → Nat → Int32} {c : Nat → Bool} {x y : Nat → Nat} {u v n : Nat} (hs : ∀ s, s < n → g (s + 1) = if c s = true then jn (g s) (x s) (y s) else g s) (hx : ∀ s, s < n → x s < 32) (hy : ∀ s, s < n → y s < 32) : ∀ s, s ≤ n → (bt (g s u) v = true ↔ bt (g 0 u) v = true ∨ ∃ t, t < s ∧ c t = true ∧ pr2 u v (x t) (y t))
  | 0, _ => ⟨Or.inl, fun z => z.elim id fun ⟨t, h, _⟩ => (by omega)⟩
  | s + 1, h => by
    have ih := fold_b (u := u) (v := v) hs hx hy s (by omega)
    rw [hs s (by omega)]
    by_cases q : c s = true
    · rw [if_pos q, bt_jnP (hx s (by omega)) (hy s (by omega)), ih]
      constructor
      · rintro ((h1 | ⟨t, t1, t2⟩) | h1)
        · exact Or.inl h1
        · exact Or.inr ⟨t, by omega, t2⟩
        · exact Or.inr ⟨s, by omega, q, h1⟩
      · rintro (h1 | ⟨t, t1, t2, t3⟩)
        · exact Or.inl (Or.inl h1)
        · by_cases e : t = s
          · subst e; exact Or.inr t3
          · exact Or.inl (Or.inr ⟨t, by omega, t2, t3⟩)
    · rw [if_neg q, ih]
      constructor
      · rintro (h1 | ⟨t, t1, t2⟩)
        · exact Or.inl h1
        · exact Or.inr ⟨t, by omega, t2⟩
      · rintro (h1 | ⟨t, t1, t2, t3⟩)
        · exact Or.inl h1
        · by_cases e : t = s
          · subst e; exact absurd t2 q
          · exact Or.inr ⟨t, by omega, t2, t3⟩
theorem cgl_b {kd nx k : Nat} {fp fq f : Nat → Int32} {u v : Nat} (hk : k < 24) : bt (cgl kd nx fp fq k f k u) v = true ↔ bt (f u) v = true ∨ ∃ l, l < k ∧ glR kd nx fp fq k l = true ∧ pr2 u v k l :=
  fold_b (g := cgl kd nx fp fq k f) (c := glR kd nx fp fq k) (x := fun _ => k) (y := fun l => l) (n := k) (fun _ _ => rfl) (fun _ _ => by show k < 32; omega) (fun s hs => by show s < 32; omega) k (Nat.le_refl _)
theorem cgk_b {kd nx : Nat} {fp fq : Nat → Int32} {u v : Nat} : ∀ K, K ≤ 24 → (bt (cgk kd nx fp fq K u) v = true ↔ ∃ k l, k < K ∧ l < k ∧ glR kd nx fp fq k l = true ∧ pr2 u v k l)
  | 0, _ => by
    show bt (nI 0) v = true ↔ _
    rw [show bt (nI 0) v = false from b_0 v]
    exact ⟨fun z => (by cases z), fun ⟨x, t, h1, _⟩ => (by omega)⟩
  | K + 1, hK => by
    rw [cgk, cgl_b (by omega), cgk_b K (by omega)]
    constructor
    · rintro (⟨k, l, h1, h2⟩ | ⟨l, h2⟩)
      · exact ⟨k, l, by omega, h2⟩
      · exact ⟨K, l, by omega, h2⟩
    · rintro ⟨k, l, h1, h2⟩
      by_cases e : k = K
      · subst e; exact Or.inr ⟨l, h2⟩
      · exact Or.inl ⟨k, l, by omega, h2⟩
theorem mg1_b {kd nx q p : Nat} {fp f : Nat → Int32} {u v : Nat} (h1 : ∀ r, r < nx → r + nx * q < 24) (hp : p < nx) : bt (mg1 kd nx fp q p f nx u) v = true ↔ bt (f u) v = true ∨ ∃ r, r < nx ∧ ((kd = 0 ∨ q = 0) ∧ bt (fp p) r = true) ∧ pr2 u v (p + nx * q) (r + nx * q) := by
  have := fold_b (u := u) (v := v) (g := mg1 kd nx fp q p f) (c := fun r => decide ((kd = 0 ∨ q = 0) ∧ bt (fp p) r = true)) (x := fun _ => p + nx * q) (y := fun r => r + nx * q) (n := nx) (fun s _ => by
    rw [mg1]
    by_cases e : (kd = 0 ∨ q = 0) ∧ bt (fp p) s = true
    · rw [if_pos e, if_pos (decide_eq_true e)]
    · rw [if_neg e, if_neg (by rw [decide_eq_false e]; decide)]) (fun s hs => by have := h1 p hp; show p + nx * q < 32; omega) (fun s hs => by have := h1 s hs; show s + nx * q < 32; omega) nx (Nat.le_refl _)
  simp only [decide_eq_true_eq] at this
  exact this
theorem mg2_b {nx ny q p : Nat} {fq f : Nat → Int32} {u v : Nat} (h1 : ∀ r, r < ny → p + nx * r < 24) (hq : q < ny) : bt (mg2 nx fq q p f ny u) v = true ↔ bt (f u) v = true ∨ ∃ r, r < ny ∧ bt (fq q) r = true ∧ pr2 u v (p + nx * q) (p + nx * r) :=
  fold_b (g := mg2 nx fq q p f) (c := fun r => bt (fq q) r) (x := fun _ => p + nx * q) (y := fun r => p + nx * r) (n := ny) (fun _ _ => rfl) (fun s hs => by have := h1 q hq; show p + nx * q < 32; omega) (fun s hs => by have := h1 s hs; show p + nx * s < 32; omega) ny (Nat.le_refl _)
theorem lin_lt {nx ny p q : Nat} (hN : nx * ny ≤ 24) (hp : p < nx) (hq : q < ny) : p + nx * q < 24 := by
  have := dm_all (b := ny) hp hq
  omega
abbrev mgC (kd nx ny : Nat) (fp fq : Nat → Int32) (u v q p : Nat) : Prop := (∃ r, r < nx ∧ ((kd = 0 ∨ q = 0) ∧ bt (fp p) r = true) ∧ pr2 u v (p + nx * q) (r + nx * q)) ∨ ∃ r, r < ny ∧ bt (fq q) r = true ∧ pr2 u v (p + nx * q) (p + nx * r)
theorem mgp_b {kd nx ny q : Nat} {fp fq f : Nat → Int32} {u v : Nat} (hN : nx * ny ≤ 24) (hq : q < ny) : ∀ P, P ≤ nx → (bt (mgp kd nx ny fp fq q f P u) v = true ↔ bt (f u) v = true ∨ ∃ p, p < P ∧ mgC kd nx ny fp fq u v q p)
  | 0, _ => ⟨Or.inl, fun z => z.elim id fun ⟨t, h, _⟩ => (by omega)⟩
  | P + 1, hP => by
    rw [mgp, mg2_b (fun r hr => lin_lt hN (by omega) hr) hq, mg1_b (fun r hr => lin_lt hN hr hq) (by omega), mgp_b hN hq P (by omega)]
    constructor
    · rintro (((h | ⟨p, h1, h2⟩) | h) | h)
      · exact Or.inl h
      · exact Or.inr ⟨p, by omega, h2⟩
      · exact Or.inr ⟨P, by omega, Or.inl h⟩
      · exact Or.inr ⟨P, by omega, Or.inr h⟩
    · rintro (h | ⟨p, h1, h2⟩)
      · exact Or.inl (Or.inl (Or.inl h))
      · by_cases e : p = P
        · subst e
          rcases h2 with h2 | h2
          · exact Or.inl (Or.inr h2)
          · exact Or.inr h2
        · exact Or.inl (Or.inl (Or.inr ⟨p, by omega, h2⟩))
theorem mgq_b {kd nx ny : Nat} {fp fq : Nat → Int32} {u v : Nat} (hN : nx * ny ≤ 24) : ∀ Q, Q ≤ ny → (bt (mgq kd nx ny fp fq Q u) v = true ↔ ∃ q p, q < Q ∧ p < nx ∧ mgC kd nx ny fp fq u v q p)
  | 0, _ => by
    show bt (nI 0) v = true ↔ _
    rw [show bt (nI 0) v = false from b_0 v]
    exact ⟨fun z => (by cases z), fun ⟨x, t, h1, _⟩ => (by omega)⟩
  | Q + 1, hQ => by
    rw [mgq, mgp_b hN (by omega) nx (Nat.le_refl _), mgq_b hN Q (by omega)]
    constructor
    · rintro (⟨q, p, h1, h2⟩ | ⟨p, h1, h2⟩)
      · exact ⟨q, p, by omega, h2⟩
      · exact ⟨Q, p, by omega, h1, h2⟩
    · rintro ⟨q, p, h1, h2, h3⟩
      by_cases e : q = Q
      · subst e; exact Or.inr ⟨p, h2, h3⟩
      · exact Or.inl ⟨q, p, by omega, h2, h3⟩
theorem glR_sym {kd nx ny d1 d2 : Nat} {fp fq : Nat → Int32} (h1 : nok nx d1 fp) (h2 : nok ny d2 fq) {u v : Nat} (hu : u < nx * ny) (hv' : v < nx * ny) (h : glR kd nx fp fq u v = true) : glR kd nx fp fq v u = true := by
  have p1 := h1.n1
  have a1 : u % nx < nx := Nat.mod_lt _ p1
  have a2 : v % nx < nx := Nat.mod_lt _ p1
  unfold glR at h ⊢
  simp only [Bool.or_eq_true, Bool.and_eq_true, decide_eq_true_eq] at h ⊢
  rcases h with ⟨e1, e2, e3⟩ | ⟨e1, e2⟩
  · exact Or.inl ⟨e1.symm, by rw [← e1]; exact e2, by rw [h1.sym a2 a1]; exact e3⟩
  · exact Or.inr ⟨e1.symm, by rw [h2.sym (dm_lt hv') (dm_lt hu)]; exact e2⟩
theorem glR_irr {kd nx ny d1 d2 : Nat} {fp fq : Nat → Int32} (h1 : nok nx d1 fp) (h2 : nok ny d2 fq) {u : Nat} (hu : u < nx * ny) : glR kd nx fp fq u u = false := by
  have p1 := h1.n1
  have a1 : u % nx < nx := Nat.mod_lt _ p1
  unfold glR
  rw [h1.irr a1, h2.irr (dm_lt hu)]
  simp
theorem cgk_iff {kd nx ny d1 d2 : Nat} {fp fq : Nat → Int32} (h1 : nok nx d1 fp) (h2 : nok ny d2 fq) (hN : nx * ny ≤ 24) (u v : Nat) : bt (cgk kd nx fp fq (nx * ny) u) v = true ↔ u < nx * ny ∧ v < nx * ny ∧ glR kd nx fp fq u v = true := by
  rw [cgk_b _ hN]
  constructor
  · rintro ⟨k, l, k1, k2, k3, k4 | k4⟩
    · obtain ⟨rfl, rfl⟩ := k4; exact ⟨k1, by omega, k3⟩
    · obtain ⟨rfl, rfl⟩ := k4; exact ⟨by omega, k1, glR_sym h1 h2 k1 (by omega) k3⟩
  · rintro ⟨k1, k2, k3⟩
    by_cases e : v < u
    · exact ⟨u, v, k1, e, k3, Or.inl ⟨rfl, rfl⟩⟩
    · by_cases e2 : u = v
      · subst e2; rw [glR_irr h1 h2 k1] at k3; cases k3
      · exact ⟨v, u, k2, by omega, glR_sym h1 h2 k1 k2 k3, Or.inr ⟨rfl, rfl⟩⟩
theorem mgq_iff {kd nx ny d1 d2 : Nat} {fp fq : Nat → Int32} (h1 : nok nx d1 fp) (h2 : nok ny d2 fq) (hN : nx * ny ≤ 24) (u v : Nat) : bt (mgq kd nx ny fp fq ny u) v = true ↔ u < nx * ny ∧ v < nx * ny ∧ glR kd nx fp fq u v = true := by
  rw [mgq_b hN _ (Nat.le_refl _)]
  constructor
  · have key : ∀ q p, q < ny → p < nx → ∀ x y, ((∃ r, r < nx ∧ ((kd = 0 ∨ q = 0) ∧ bt (fp p) r = true) ∧ (x = p + nx * q ∧ y = r + nx * q)) ∨ ∃ r, r < ny ∧ bt (fq q) r = true ∧ (x = p + nx * q ∧ y = p + nx * r)) → x < nx * ny ∧ y < nx * ny ∧ glR kd nx fp fq x y = true := by
      intro q p hq hp x y h
      rcases h with ⟨r, r1, ⟨r2, r3⟩, rfl, rfl⟩ | ⟨r, r1, r2, rfl, rfl⟩
      · refine ⟨dm_all hp hq, dm_all r1 hq, ?_⟩
        unfold glR
        simp only [dm_mod hp, dm_mod r1, dm_div hp, dm_div r1, Bool.or_eq_true, Bool.and_eq_true, decide_eq_true_eq]
        exact Or.inl ⟨trivial, r2, r3⟩
      · refine ⟨dm_all hp hq, dm_all hp r1, ?_⟩
        unfold glR
        simp only [dm_mod hp, dm_div hp, Bool.or_eq_true, Bool.and_eq_true, decide_eq_true_eq]
        exact Or.inr ⟨trivial, r2⟩
    rintro ⟨q, p, hq, hp, ⟨r, r1, r2, e | e⟩ | ⟨r, r1, r2, e | e⟩⟩
    · exact key q p hq hp u v (Or.inl ⟨r, r1, r2, e⟩)
    · obtain ⟨z1, z2, z3⟩ := key q p hq hp v u (Or.inl ⟨r, r1, r2, e.2, e.1⟩)
      exact ⟨z2, z1, glR_sym h1 h2 z1 z2 z3⟩
    · exact key q p hq hp u v (Or.inr ⟨r, r1, r2, e⟩)
    · obtain ⟨z1, z2, z3⟩ := key q p hq hp v u (Or.inr ⟨r, r1, r2, e.2, e.1⟩)
      exact ⟨z2, z1, glR_sym h1 h2 z1 z2 z3⟩
  · rintro ⟨k1, k2, k3⟩
    have p1 := h1.n1
    have a1 : u % nx < nx := Nat.mod_lt _ p1
    have a2 : v % nx < nx := Nat.mod_lt _ p1
    have eu := Nat.mod_add_div u nx
    have ev := Nat.mod_add_div v nx
    unfold glR at k3
    simp only [Bool.or_eq_true, Bool.and_eq_true, decide_eq_true_eq] at k3
    refine ⟨u / nx, u % nx, dm_lt k1, a1, ?_⟩
    rcases k3 with ⟨e1, e2, e3⟩ | ⟨e1, e2⟩
    · exact Or.inl ⟨v % nx, a2, ⟨e2, e3⟩, Or.inl ⟨eu.symm, by rw [e1]; exact ev.symm⟩⟩
    · exact Or.inr ⟨v / nx, dm_lt k2, e2, Or.inl ⟨eu.symm, by rw [e1]; exact ev.symm⟩⟩
theorem mgq_cgk {kd nx ny d1 d2 : Nat} {fp fq : Nat → Int32} (h1 : nok nx d1 fp) (h2 : nok ny d2 fq) (hN : nx * ny ≤ 24) : mgq kd nx ny fp fq ny = cgk kd nx fp fq (nx * ny) := by
  funext u
  refine b_ext fun i _ => Bool.eq_iff_iff.mpr ?_
  rw [mgq_iff h1 h2 hN, cgk_iff h1 h2 hN]
theorem fb_ct_add {p q r : Nat → Bool} : ∀ n, (∀ k, k < n → p k = true → q k = true ∨ r k = true) → fb_ct p n ≤ fb_ct q n + fb_ct r n
  | 0, _ => Nat.le_refl _
  | n + 1, h => by
    have := fb_ct_add n (fun k hk => h k (by omega))
    have h2 := h n (by omega)
    rw [fb_ct_succ, fb_ct_succ, fb_ct_succ]
    by_cases e : p n = true
    · rw [if_pos e]
      rcases h2 e with z | z
      · rw [if_pos z]; omega
      · rw [if_pos z]; omega
    · rw [if_neg e]; omega
theorem cgk_nok {kd nx ny d1 d2 : Nat} {fp fq : Nat → Int32} (h1 : nok nx d1 fp) (h2 : nok ny d2 fq) (hN : nx * ny ≤ 24) (hd : d1 + d2 ≤ 8) : nok (nx * ny) (d1 + d2) (cgk kd nx fp fq (nx * ny)) := by
  have key := cgk_iff (kd := kd) h1 h2 hN
  have p1 := h1.n1
  refine ⟨Nat.mul_pos h1.n1 h2.n1, hN, by have := h1.d1; omega, hd, fun u v hu hv' => Bool.eq_iff_iff.mpr ?_, fun u hu => ?_, fun u hu v hv' => ?_, fun u hu => ?_, fun k hk hk2 => ?_⟩
  · rw [key, key]
    exact ⟨fun z => ⟨z.2.1, z.1, glR_sym h1 h2 hu hv' z.2.2⟩, fun z => ⟨z.2.1, z.1, glR_sym h1 h2 hv' hu z.2.2⟩⟩
  · cases e : bt (cgk kd nx fp fq (nx * ny) u) u with
    | false => rfl
    | true =>
      have := ((key u u).mp e).2.2
      rw [glR_irr h1 h2 hu] at this; cases this
  · cases e : bt (cgk kd nx fp fq (nx * ny) u) v with
    | false => rfl
    | true => have := ((key u v).mp e).2.1; omega
  · have c1 : fb_ct (fun v => decide (u / nx = v / nx) && bt (fp (u % nx)) (v % nx)) 32 ≤ pc32 (fp (u % nx)) := fb_ct_img (g := fun r => r + nx * (u / nx)) 32 _ (fun v hv' hq => by
      simp only [Bool.and_eq_true, decide_eq_true_eq] at hq
      have a2 : v % nx < nx := Nat.mod_lt _ p1
      have := h1.n24
      exact ⟨v % nx, by omega, hq.2, by show v % nx + nx * (u / nx) = v; rw [hq.1]; exact Nat.mod_add_div v nx⟩)
    have c2 : fb_ct (fun v => decide (u % nx = v % nx) && bt (fq (u / nx)) (v / nx)) 32 ≤ pc32 (fq (u / nx)) := fb_ct_img (g := fun r => u % nx + nx * r) 32 _ (fun v hv' hq => by
      simp only [Bool.and_eq_true, decide_eq_true_eq] at hq
      exact ⟨v / nx, Nat.lt_of_le_of_lt (Nat.div_le_self _ _) hv', hq.2, by show u % nx + nx * (v / nx) = v; rw [hq.1]; exact Nat.mod_add_div v nx⟩)
    have c3 := fb_ct_add (p := bt (cgk kd nx fp fq (nx * ny) u)) (q := fun v => decide (u / nx = v / nx) && bt (fp (u % nx)) (v % nx)) (r := fun v => decide (u % nx = v % nx) && bt (fq (u / nx)) (v / nx)) 32 (fun v _ hq => by
      have h3 := ((key u v).mp hq).2.2
      unfold glR at h3
      simp only [Bool.or_eq_true, Bool.and_eq_true, decide_eq_true_eq] at h3 ⊢
      exact h3.elim (fun z => Or.inl ⟨z.1, z.2.2⟩) Or.inr)
    have e1 := h1.deg (a := u % nx) (Nat.mod_lt _ p1)
    have e2 := h2.deg (a := u / nx) (dm_lt hu)
    unfold pc32 at *
    omega
  · refine b_ext fun i _ => ?_
    rw [show bt (nI 0) i = false from b_0 i]
    cases e : bt (cgk kd nx fp fq (nx * ny) k) i with
    | false => rfl
    | true => have := ((key k i).mp e).1; omega
end C97
