/-! the lines of a net, in their order; what holds of every net that lies in a slot -/
section PRS
def nok (n d : Nat) (f : Nat → Int32) : Prop := 1 ≤ n ∧ n ≤ 24 ∧ 1 ≤ d ∧ d ≤ 8 ∧ (∀ a b, a < n → b < n → bt (f a) b = bt (f b) a) ∧ (∀ a, a < n → bt (f a) a = false) ∧ (∀ a, a < n → ∀ b, n ≤ b → bt (f a) b = false) ∧ (∀ a, a < n → pc32 (f a) ≤ d) ∧ ∀ k, n ≤ k → k < 24 → f k = nI 0
theorem nok.n1 {n d : Nat} {f : Nat → Int32} (h : nok n d f) : 1 ≤ n := h.1
theorem nok.n24 {n d : Nat} {f : Nat → Int32} (h : nok n d f) : n ≤ 24 := h.2.1
theorem nok.d1 {n d : Nat} {f : Nat → Int32} (h : nok n d f) : 1 ≤ d := h.2.2.1
theorem nok.d8 {n d : Nat} {f : Nat → Int32} (h : nok n d f) : d ≤ 8 := h.2.2.2.1
theorem nok.sym {n d : Nat} {f : Nat → Int32} (h : nok n d f) {a b : Nat} (ha : a < n) (hb : b < n) : bt (f a) b = bt (f b) a := h.2.2.2.2.1 a b ha hb
theorem nok.irr {n d : Nat} {f : Nat → Int32} (h : nok n d f) {a : Nat} (ha : a < n) : bt (f a) a = false := h.2.2.2.2.2.1 a ha
theorem nok.out {n d : Nat} {f : Nat → Int32} (h : nok n d f) {a b : Nat} (ha : a < n) (hb : n ≤ b) : bt (f a) b = false := h.2.2.2.2.2.2.1 a ha b hb
theorem nok.deg {n d : Nat} {f : Nat → Int32} (h : nok n d f) {a : Nat} (ha : a < n) : pc32 (f a) ≤ d := h.2.2.2.2.2.2.2.1 a ha
theorem nok.zero {n d : Nat} {f : Nat → Int32} (h : nok n d f) {k : Nat} (h1 : n ≤ k) (h2 : k < 24) : f k = nI 0 := h.2.2.2.2.2.2.2.2 k h1 h2
theorem nok.lt {n d : Nat} {f : Nat → Int32} (h : nok n d f) {a b : Nat} (ha : a < n) (hb : bt (f a) b = true) : b < n := by
  rcases Nat.lt_or_ge b n with q | q
  · exact q
  · rw [h.out ha q] at hb; cases hb
/-- neighbours below n, no ring: what a net under change keeps (degrees aside) -/
def nsy (n : Nat) (f : Nat → Int32) : Prop := n ≤ 24 ∧ (∀ a b, a < n → b < n → bt (f a) b = bt (f b) a) ∧ (∀ a, a < n → bt (f a) a = false) ∧ (∀ a, a < n → ∀ b, n ≤ b → bt (f a) b = false)
theorem nok.sy {n d : Nat} {f : Nat → Int32} (h : nok n d f) : nsy n f := ⟨h.2.1, h.2.2.2.2.1, h.2.2.2.2.2.1, h.2.2.2.2.2.2.1⟩
def pbs (f : Nat → Int32) (a : Nat) : Nat → List (Nat × Nat)
  | 0 => []
  | b + 1 => if a < b ∧ bt (f a) b = true then pbs f a b ++ [(a, b)] else pbs f a b
def pas (n : Nat) (f : Nat → Int32) : Nat → List (Nat × Nat)
  | 0 => []
  | a + 1 => pas n f a ++ pbs f a n
def prs (n : Nat) (f : Nat → Int32) : List (Nat × Nat) := pas n f n
theorem pbs_lo (f : Nat → Int32) (a : Nat) : ∀ b, b ≤ a + 1 → pbs f a b = []
  | 0, _ => rfl
  | b + 1, h => by rw [pbs, if_neg (by omega)]; exact pbs_lo f a b (by omega)
theorem pbs_hi {n : Nat} {f : Nat → Int32} {a : Nat} (h : n ≤ a + 1) : pbs f a n = [] := pbs_lo f a n h
theorem pbs_len (f : Nat → Int32) (a : Nat) : ∀ b, (pbs f a b).length = fb_ct (fun k => decide (a < k) && bt (f a) k) b
  | 0 => rfl
  | b + 1 => by
    rw [pbs, fb_ct_succ, ← pbs_len f a b]
    by_cases q : a < b ∧ bt (f a) b = true
    · rw [if_pos q, if_pos (by simp [q])]; simp
    · rw [if_neg q, if_neg (by simpa using q)]; rfl
theorem pas_len (n : Nat) (f : Nat → Int32) : ∀ a, (pas n f a).length = fb_sm (fun a => fb_ct (fun k => decide (a < k) && bt (f a) k) n) a
  | 0 => rfl
  | a + 1 => by rw [pas, List.length_append, pas_len n f a, pbs_len, fb_sm_succ]
theorem mem_pbs {f : Nat → Int32} {a : Nat} {q : Nat × Nat} : ∀ {b : Nat}, q ∈ pbs f a b ↔ q.1 = a ∧ a < q.2 ∧ q.2 < b ∧ bt (f a) q.2 = true
  | 0 => by simp [pbs]
  | b + 1 => by
    rw [pbs]
    by_cases h : a < b ∧ bt (f a) b = true
    · rw [if_pos h, List.mem_append, mem_pbs, List.mem_singleton]
      constructor
      · rintro (⟨h1, h2, h3, h4⟩ | rfl)
        · exact ⟨h1, h2, by omega, h4⟩
        · exact ⟨rfl, h.1, by simp, h.2⟩
      · rintro ⟨h1, h2, h3, h4⟩
        by_cases q2 : q.2 = b
        · exact Or.inr (Prod.ext h1 q2)
        · exact Or.inl ⟨h1, h2, by omega, h4⟩
    · rw [if_neg h, mem_pbs]
      constructor
      · rintro ⟨h1, h2, h3, h4⟩; exact ⟨h1, h2, by omega, h4⟩
      · rintro ⟨h1, h2, h3, h4⟩
        refine ⟨h1, h2, ?_, h4⟩
        by_cases q2 : q.2 = b
        · exact absurd ⟨by omega, by rw [← q2]; exact h4⟩ h
        · omega
theorem mem_pas {n : Nat} {f : Nat → Int32} {q : Nat × Nat} : ∀ {m : Nat}, q ∈ pas n f m ↔ q.1 < m ∧ q.1 < q.2 ∧ q.2 < n ∧ bt (f q.1) q.2 = true
  | 0 => by simp [pas]
  | m + 1 => by
    rw [pas, List.mem_append, mem_pas, mem_pbs]
    constructor
    · rintro (⟨h1, h2, h3, h4⟩ | ⟨h1, h2, h3, h4⟩)
      · exact ⟨by omega, h2, h3, h4⟩
      · subst h1; exact ⟨by omega, h2, h3, h4⟩
    · rintro ⟨h1, h2, h3, h4⟩
      by_cases q2 : q.1 = m
      · subst q2; exact Or.inr ⟨rfl, h2, h3, h4⟩
      · exact Or.inl ⟨by omega, h2, h3, h4⟩
theorem mem_prs {n : Nat} {f : Nat → Int32} {q : Nat × Nat} : q ∈ prs n f ↔ q.1 < q.2 ∧ q.2 < n ∧ bt (f q.1) q.2 = true := by
  unfold prs
  rw [mem_pas]
  constructor
  · rintro ⟨h1, h2, h3, h4⟩; exact ⟨h2, h3, h4⟩
  · rintro ⟨h2, h3, h4⟩; exact ⟨by omega, h2, h3, h4⟩
theorem fb_sm_ct (p : Nat → Bool) : ∀ n, fb_sm (fun k => if p k then 1 else 0) n = fb_ct p n
  | 0 => rfl
  | n + 1 => by rw [fb_sm_succ, fb_ct_succ, fb_sm_ct p n]
theorem hands (M : Nat → Nat → Bool) : ∀ n, (∀ a b, a < n → b < n → M a b = M b a) → (∀ a, a < n → M a a = false) → fb_sm (fun a => fb_ct (M a) n) n = 2 * fb_sm (fun a => fb_ct (fun b => decide (a < b) && M a b) n) n
  | 0, _, _ => rfl
  | n + 1, hs, hi => by
    have ih := hands M n (fun a b ha hb => hs a b (by omega) (by omega)) (fun a ha => hi a (by omega))
    have e1 : fb_sm (fun a => fb_ct (M a) (n + 1)) (n + 1) = fb_sm (fun a => fb_ct (M a) n) n + fb_ct (fun a => M a n) n + (fb_ct (M n) n + 0) := by
      rw [fb_sm_succ, fb_ct_succ, hi n (by omega)]
      have : fb_sm (fun a => fb_ct (M a) (n + 1)) n = fb_sm (fun a => fb_ct (M a) n + (if M a n then 1 else 0)) n := fb_sm_cong fun k _ => fb_ct_succ _ _
      rw [this, fb_sm_add, fb_sm_ct]
      rfl
    have e2 : fb_sm (fun a => fb_ct (fun b => decide (a < b) && M a b) (n + 1)) (n + 1) = fb_sm (fun a => fb_ct (fun b => decide (a < b) && M a b) n) n + fb_ct (fun a => M a n) n := by
      rw [fb_sm_succ]
      have z : fb_ct (fun b => decide (n < b) && M n b) (n + 1) = 0 := fb_ct_zero.mpr fun k hk => by rw [decide_eq_false (by omega)]; rfl
      have : fb_sm (fun a => fb_ct (fun b => decide (a < b) && M a b) (n + 1)) n = fb_sm (fun a => fb_ct (fun b => decide (a < b) && M a b) n + (if M a n then 1 else 0)) n := fb_sm_cong fun k hk => by
        rw [fb_ct_succ, decide_eq_true hk]; rfl
      rw [this, fb_sm_add, fb_sm_ct, z]
      rfl
    have e3 : fb_ct (fun a => M a n) n = fb_ct (M n) n := fb_ct_cong fun k hk => hs k n (by omega) (by omega)
    rw [e1, e2, e3, ih]
    omega
theorem pc32_n {n : Nat} {x : Int32} (hn : n ≤ 32) (h : ∀ b, n ≤ b → bt x b = false) : pc32 x = fb_ct (bt x) n := by
  unfold pc32
  obtain ⟨k, e⟩ : ∃ k, 32 = n + k := ⟨32 - n, by omega⟩
  have z : fb_ct (fun k => bt x (n + k)) k = 0 := fb_ct_zero.mpr (fun i _ => h _ (by omega))
  rw [e, fb_ct_split, z, Nat.add_zero]
/-- each line is told by both its knots -/
theorem prs_len {n : Nat} {f : Nat → Int32} (h : nsy n f) : fb_sm (fun k => pc32 (f k)) n = 2 * (prs n f).length := by
  unfold prs
  rw [pas_len, ← hands (fun a b => bt (f a) b) n h.2.1 h.2.2.1]
  exact fb_sm_cong fun k hk => pc32_n (by have := h.1; omega) (h.2.2.2 k hk)
theorem prs_96 {n d : Nat} {f : Nat → Int32} (h : nok n d f) : (prs n f).length ≤ 96 := by
  have h1 := prs_len h.sy
  have h2 := fb_sm_bound (f := fun k => pc32 (f k)) (c := 8) (n := n) (fun k hk => Nat.le_trans (h.deg hk) h.d8)
  have := h.n24
  omega
theorem prs_276 (n : Nat) (f : Nat → Int32) (h : n ≤ 24) : (prs n f).length ≤ 576 := by
  unfold prs
  rw [pas_len]
  have := fb_sm_bound (f := fun a => fb_ct (fun k => decide (a < k) && bt (f a) k) n) (c := 24) (n := n) (fun k _ => Nat.le_trans (fb_ct_le _ _) h)
  omega
def pcode (q : Nat × Nat) : Nat := 32 * q.1 + q.2
def rowA (l : List (Nat × Nat)) (r0 : Nat → Int32) : Nat → Int32 := fun i => if i < l.length then nI (pcode (l.getD i (0, 0))) else r0 i
theorem rowA_nil (r0 : Nat → Int32) : rowA [] r0 = r0 := by funext i; simp [rowA]
theorem rowA_app (l : List (Nat × Nat)) (r0 : Nat → Int32) (q : Nat × Nat) : upd (rowA l r0) l.length (nI (pcode q)) = rowA (l ++ [q]) r0 := by
  funext i
  rw [upd_at]
  simp only [rowA, List.length_append, List.length_singleton]
  by_cases h : i = l.length
  · subst h; simp
  · rw [if_neg h]
    by_cases h2 : i < l.length
    · rw [if_pos h2, if_pos (by omega)]
      simp [List.getElem?_append_left h2]
    · rw [if_neg h2, if_neg (by omega)]
theorem pre_len {n : Nat} {f : Nat → Int32} {a b : Nat} (ha : a < n) (hb : a < b) (hbn : b < n) (ht : bt (f a) b = true) : (pas n f a ++ pbs f a b).length < (prs n f).length := by
  have h1 : (pbs f a (b + 1)).length = (pbs f a b).length + 1 := by rw [pbs, if_pos ⟨hb, ht⟩]; simp
  have h2 : (pbs f a (b + 1)).length ≤ (pbs f a n).length := by rw [pbs_len, pbs_len]; exact fb_ct_mono _ (by omega)
  have h3 : (pas n f (a + 1)).length ≤ (prs n f).length := by
    unfold prs
    rw [pas_len, pas_len]
    obtain ⟨k, rfl⟩ : ∃ k, n = (a + 1) + k := ⟨n - (a + 1), by omega⟩
    exact fb_sm_mono _ _ _
  rw [pas, List.length_append] at h3
  rw [List.length_append]
  omega
end PRS
