section
/-! read: what a text says -/
section C9yt
theorem isWb_f {tb : Nat → Nat} {n b i : Nat} : isWb tb n b i = false ↔ ¬ isW tb n b i := by
  constructor
  · intro h z
    rw [isWb_t.mpr z] at h; cases h
  · intro h
    exact ff_of fun z => h (isWb_t.mp z)
/-- which known word -/
noncomputable def kwI (tb : Nat → Nat) (z b : Nat) : Option Nat := if isWb tb z b 0 = true then some 0 else if isWb tb z b 1 = true then some 1 else if isWb tb z b 2 = true then some 2 else if isWb tb z b 3 = true then some 3 else if isWb tb z b 4 = true then some 4 else if isWb tb z b 5 = true then some 5 else if isWb tb z b 6 = true then some 6 else none
theorem kwI_some {tb : Nat → Nat} {z b i : Nat} : kwI tb z b = some i ↔ i < 7 ∧ isW tb z b i := by
  constructor
  · intro h
    unfold kwI at h
    repeat' split at h
    all_goals first
      | (cases h; exact ⟨by omega, isWb_t.mp (by assumption)⟩)
      | cases h
  · rintro ⟨hi, hw⟩
    have key : ∀ j, j < 7 → j ≠ i → isWb tb z b j = false := fun j hj hne => isWb_f.mpr fun w => hne (isW_one hj hi w hw)
    have hy := isWb_t.mpr hw
    unfold kwI
    rcases (show i = 0 ∨ i = 1 ∨ i = 2 ∨ i = 3 ∨ i = 4 ∨ i = 5 ∨ i = 6 by omega) with e | e | e | e | e | e | e <;> subst e <;> simp [hy, key]
theorem kwI_none {tb : Nat → Nat} {z b i : Nat} (h : kwI tb z b = none) (hi : i < 7) : isWb tb z b i = false := isWb_f.mpr fun w => by
  rw [kwI_some.mpr ⟨hi, w⟩] at h; cases h
theorem kwI_b {tb : Nat → Nat} {z b i j : Nat} (h : kwI tb z b = some i) (hj : j < 7) : isWb tb z b j = decide (j = i) := by
  obtain ⟨hi, hw⟩ := kwI_some.mp h
  by_cases e : j = i
  · rw [decide_eq_true e, e]; exact isWb_t.mpr hw
  · rw [decide_eq_false e]
    exact isWb_f.mpr fun w => e (isW_one hj hi w hw)
/-- a number's fault -/
def nuE (tb : Nat → Nat) (z lo hi b : Nat) : Nat := if kd tb z b ≠ 2 then 1 else if 3 < en tb z b - b ∨ rv tb z b < lo ∨ hi < rv tb z b then 2 else 0
def lmem (l : Nat → Nat) (v : Nat) : Nat → Bool
  | 0 => false
  | k + 1 => lmem l v k || decide (l k = v)
theorem lmem_t {l : Nat → Nat} {v : Nat} : ∀ {m}, lmem l v m = true ↔ ∃ k, k < m ∧ l k = v
  | 0 => ⟨fun h => (by cases h), fun ⟨k, hk, _⟩ => absurd hk (by omega)⟩
  | m + 1 => by
    rw [lmem, Bool.or_eq_true, decide_eq_true_eq, lmem_t]
    constructor
    · rintro (⟨k, a, e⟩ | e)
      · exact ⟨k, by omega, e⟩
      · exact ⟨m, by omega, e⟩
    · rintro ⟨k, a, e⟩
      by_cases q : k = m
      · rw [q] at e; exact Or.inr e
      · exact Or.inl ⟨k, by omega, e⟩
/-- a knot's fault -/
def knE (tb : Nat → Nat) (z n : Nat) (l : Nat → Nat) (m b : Nat) : Nat := if kd tb z b ≠ 2 then 1 else if 3 < en tb z b - b ∨ m = 12 then 2 else if n ≤ rv tb z b then 3 else if lmem l (rv tb z b) m = true then 4 else 0
def lput (l : Nat → Nat) (m v : Nat) : Nat → Nat := fun k => if k = m then v else l k
abbrev kS : Type := Nat × Nat × (Nat → Nat) × Nat
def kn1 (tb : Nat → Nat) (z n : Nat) (s : kS) : kS := if s.1 ≠ 0 then s else if knE tb z n s.2.2.1 s.2.2.2 s.2.1 = 0 then (0, nb tb z s.2.1, lput s.2.2.1 s.2.2.2 (rv tb z s.2.1), s.2.2.2 + 1) else (knE tb z n s.2.2.1 s.2.2.2 s.2.1, s.2.1, s.2.2.1, s.2.2.2)
def knL (tb : Nat → Nat) (z n : Nat) : Nat → kS → kS
  | 0, s => s
  | u + 1, s => if s.1 = 0 ∧ kd tb z s.2.1 = 2 then knL tb z n u (kn1 tb z n s) else s
def lok (n : Nat) (l : Nat → Nat) (m : Nat) : Prop := (∀ k, k < m → l k < n) ∧ (∀ i j, i < m → j < m → l i = l j → i = j) ∧ m ≤ 12
theorem lok_0 (n : Nat) (l : Nat → Nat) : lok n l 0 := ⟨fun k h => absurd h (by omega), fun i j h => absurd h (by omega), by omega⟩
theorem lok_put {n v m : Nat} {l : Nat → Nat} (h : lok n l m) (hv : v < n) (hm : m < 12) (hl : lmem l v m = false) : lok n (lput l m v) (m + 1) := by
  have hne : ∀ k, k < m → l k ≠ v := fun k hk e => by rw [lmem_t.mpr ⟨k, hk, e⟩] at hl; cases hl
  refine ⟨fun k hk => ?_, fun i j hi hj e => ?_, by omega⟩
  · unfold lput
    split
    · exact hv
    · exact h.1 k (by omega)
  · unfold lput at e
    by_cases q1 : i = m
    · by_cases q2 : j = m
      · omega
      · rw [if_pos q1, if_neg q2] at e; exact absurd e.symm (hne j (by omega))
    · by_cases q2 : j = m
      · rw [if_neg q1, if_pos q2] at e; exact absurd e (hne i (by omega))
      · rw [if_neg q1, if_neg q2] at e; exact h.2.1 i j (by omega) (by omega) e
theorem knE_0 {tb : Nat → Nat} {z n m b : Nat} {l : Nat → Nat} (h : knE tb z n l m b = 0) : kd tb z b = 2 ∧ en tb z b - b ≤ 3 ∧ m ≠ 12 ∧ rv tb z b < n ∧ lmem l (rv tb z b) m = false := by
  unfold knE at h
  split at h
  · omega
  · split at h
    · omega
    · split at h
      · omega
      · split at h
        · omega
        · rename_i a b_ c e
          exact ⟨by omega, by omega, by omega, by omega, ff_of e⟩
theorem knE_le (tb : Nat → Nat) (z n : Nat) (l : Nat → Nat) (m b : Nat) : knE tb z n l m b ≤ 4 := by
  unfold knE
  repeat' split
  all_goals omega
theorem nuE_le (tb : Nat → Nat) (z lo hi b : Nat) : nuE tb z lo hi b ≤ 2 := by
  unfold nuE
  repeat' split
  all_goals omega
theorem kn1_ok {tb : Nat → Nat} {z n : Nat} {s : kS} (hb : s.2.1 ≤ z) (h : lok n s.2.2.1 s.2.2.2) (he : s.1 ≤ 6) : (kn1 tb z n s).2.1 ≤ z ∧ lok n (kn1 tb z n s).2.2.1 (kn1 tb z n s).2.2.2 ∧ (kn1 tb z n s).1 ≤ 6 := by
  unfold kn1
  split
  · exact ⟨hb, h, he⟩
  · split
    · rename_i q
      obtain ⟨a, b, c, d, e⟩ := knE_0 q
      exact ⟨nb_le hb, lok_put h d (by have := h.2.2; omega) e, by show 0 ≤ 6; omega⟩
    · exact ⟨hb, h, Nat.le_trans (knE_le _ _ _ _ _ _) (by omega)⟩
theorem knL_ok {tb : Nat → Nat} {z n : Nat} : ∀ (u : Nat) {s : kS}, s.2.1 ≤ z → lok n s.2.2.1 s.2.2.2 → s.1 ≤ 6 → (knL tb z n u s).2.1 ≤ z ∧ lok n (knL tb z n u s).2.2.1 (knL tb z n u s).2.2.2 ∧ (knL tb z n u s).1 ≤ 6
  | 0, s, hb, h, he => ⟨hb, h, he⟩
  | u + 1, s, hb, h, he => by
    rw [knL]
    split
    · obtain ⟨a, b, c⟩ := kn1_ok (tb := tb) hb h he
      exact knL_ok u a b c
    · exact ⟨hb, h, he⟩
theorem knL_bad {tb : Nat → Nat} {z n : Nat} {s : kS} (h : ¬ (s.1 = 0 ∧ kd tb z s.2.1 = 2)) : ∀ u, knL tb z n u s = s
  | 0 => rfl
  | u + 1 => by rw [knL, if_neg h]
theorem knL_stop {tb : Nat → Nat} {z n : Nat} : ∀ (u : Nat) {s : kS}, 13 ≤ u + s.2.2.2 → s.2.2.2 ≤ 12 → ¬ ((knL tb z n u s).1 = 0 ∧ kd tb z (knL tb z n u s).2.1 = 2)
  | 0, s, h1, h2 => by omega
  | u + 1, s, h1, h2 => by
    rw [knL]
    split
    · rename_i q
      by_cases e : knE tb z n s.2.2.1 s.2.2.2 s.2.1 = 0
      · have e2 : kn1 tb z n s = (0, nb tb z s.2.1, lput s.2.2.1 s.2.2.2 (rv tb z s.2.1), s.2.2.2 + 1) := by
          unfold kn1; rw [if_neg (by omega), if_pos e]
        rw [e2]
        have := (knE_0 e).2.2.1
        exact knL_stop u (by show 13 ≤ u + (s.2.2.2 + 1); omega) (by show s.2.2.2 + 1 ≤ 12; omega)
      · have e2 : kn1 tb z n s = (knE tb z n s.2.2.1 s.2.2.2 s.2.1, s.2.1, s.2.2.1, s.2.2.2) := by
          unfold kn1; rw [if_neg (by omega), if_neg e]
        have hb : ¬ ((kn1 tb z n s).1 = 0 ∧ kd tb z (kn1 tb z n s).2.1 = 2) := fun w => e (by have := w.1; rw [e2] at this; exact this)
        rw [knL_bad hb]
        exact hb
    · assumption
/-- lines drawn one behind the other: a net, or a fault -/
abbrev dS : Type := (Nat → Int32) ⊕ Nat
def dj (d : Nat) (s : dS) (a b : Nat) : dS := match s with
  | .inr e => .inr e
  | .inl f => if bt (f a) b = true then .inr 5 else if mayJ f d a b = true then .inl (jn f a b) else .inr 6
def drow (d : Nat) (f : Nat → Int32) (l : Nat → Nat) : Nat → dS
  | 0 => .inl f
  | k + 1 => dj d (drow d f l k) (l k) (l (k + 1))
def dstr (d : Nat) (f : Nat → Int32) (l : Nat → Nat) : Nat → dS
  | 0 => .inl f
  | k + 1 => dj d (dstr d f l k) (l 0) (l (k + 1))
def dalr (d : Nat) (s : dS) (l : Nat → Nat) (k : Nat) : Nat → dS
  | 0 => s
  | j + 1 => dj d (dalr d s l k j) (l j) (l k)
def dall (d : Nat) (f : Nat → Int32) (l : Nat → Nat) : Nat → dS
  | 0 => .inl f
  | k + 1 => dalr d (dall d f l k) l (k + 1) (k + 1)
def doff (f : Nat → Int32) (l : Nat → Nat) : dS := if bt (f (l 0)) (l 1) = true then .inl (pt f (l 0) (l 1)) else .inr 5
def lnR (d i : Nat) (l : Nat → Nat) (m : Nat) (f : Nat → Int32) : dS := if i = 0 then drow d f l (m - 1) else if i = 1 then dj d (drow d f l (m - 1)) (l (m - 1)) (l 0) else if i = 2 then dall d f l (m - 1) else if i = 3 then dstr d f l (m - 1) else doff f l
def dok (n d : Nat) (s : dS) : Prop := (∀ f, s = .inl f → nok n d f) ∧ ∀ e, s = .inr e → e = 5 ∨ e = 6
theorem dj_ok {n d : Nat} {s : dS} {a b : Nat} (h : dok n d s) (ha : a < n) (hb : b < n) : dok n d (dj d s a b) := by
  rcases s with f | e
  · have hf := h.1 f rfl
    unfold dj
    refine ⟨fun g hg => ?_, fun e he => ?_⟩
    · dsimp only at hg
      split at hg
      · cases hg
      · split at hg
        · rename_i q
          cases hg
          exact nok_jn hf ha hb q
        · cases hg
    · dsimp only at he
      split at he
      · cases he; exact Or.inl rfl
      · split at he
        · cases he
        · cases he; exact Or.inr rfl
  · exact ⟨fun f q => (by cases q), fun e' q => by cases q; exact h.2 e rfl⟩
theorem drow_ok {n d : Nat} {f : Nat → Int32} {l : Nat → Nat} {m : Nat} (hf : nok n d f) (hl : ∀ k, k < m → l k < n) : ∀ k, k + 1 ≤ m → dok n d (drow d f l k)
  | 0, _ => ⟨fun g q => by cases q; exact hf, fun e q => (by cases q)⟩
  | k + 1, hk => dj_ok (drow_ok hf hl k (by omega)) (hl k (by omega)) (hl (k + 1) (by omega))
theorem dstr_ok {n d : Nat} {f : Nat → Int32} {l : Nat → Nat} {m : Nat} (hf : nok n d f) (hl : ∀ k, k < m → l k < n) : ∀ k, k + 1 ≤ m → dok n d (dstr d f l k)
  | 0, _ => ⟨fun g q => by cases q; exact hf, fun e q => (by cases q)⟩
  | k + 1, hk => dj_ok (dstr_ok hf hl k (by omega)) (hl 0 (by omega)) (hl (k + 1) (by omega))
theorem dalr_ok {n d : Nat} {s : dS} {l : Nat → Nat} {m : Nat} (hs : dok n d s) (hl : ∀ k, k < m → l k < n) {k : Nat} (hk : k < m) : ∀ j, j ≤ m → dok n d (dalr d s l k j)
  | 0, _ => hs
  | j + 1, hj => dj_ok (dalr_ok hs hl hk j (by omega)) (hl j (by omega)) (hl k hk)
theorem dall_ok {n d : Nat} {f : Nat → Int32} {l : Nat → Nat} {m : Nat} (hf : nok n d f) (hl : ∀ k, k < m → l k < n) : ∀ k, k + 1 ≤ m → dok n d (dall d f l k)
  | 0, _ => ⟨fun g q => by cases q; exact hf, fun e q => (by cases q)⟩
  | k + 1, hk => dalr_ok (dall_ok hf hl k (by omega)) hl (by omega) (k + 1) (by omega)
theorem dj_bad {d e a b : Nat} : dj d (.inr e) a b = .inr e := rfl
theorem drow_bad {d : Nat} {f : Nat → Int32} {l : Nat → Nat} {e k : Nat} (h : drow d f l k = .inr e) : ∀ m, k ≤ m → drow d f l m = .inr e
  | 0, hm => by rw [show k = 0 by omega] at h; exact h
  | m + 1, hm => by
    by_cases q : k = m + 1
    · rw [← q]; exact h
    · rw [drow, drow_bad h m (by omega)]; rfl
theorem dstr_bad {d : Nat} {f : Nat → Int32} {l : Nat → Nat} {e k : Nat} (h : dstr d f l k = .inr e) : ∀ m, k ≤ m → dstr d f l m = .inr e
  | 0, hm => by rw [show k = 0 by omega] at h; exact h
  | m + 1, hm => by
    by_cases q : k = m + 1
    · rw [← q]; exact h
    · rw [dstr, dstr_bad h m (by omega)]; rfl
theorem dalr_bad {d : Nat} {s : dS} {l : Nat → Nat} {e k j : Nat} (h : dalr d s l k j = .inr e) : ∀ m, j ≤ m → dalr d s l k m = .inr e
  | 0, hm => by rw [show j = 0 by omega] at h; exact h
  | m + 1, hm => by
    by_cases q : j = m + 1
    · rw [← q]; exact h
    · rw [dalr, dalr_bad h m (by omega)]; rfl
theorem dall_bad {d : Nat} {f : Nat → Int32} {l : Nat → Nat} {e k : Nat} (h : dall d f l k = .inr e) : ∀ m, k ≤ m → dall d f l m = .inr e
  | 0, hm => by rw [show k = 0 by omega] at h; exact h
  | m + 1, hm => by
    by_cases q : k = m + 1
    · rw [← q]; exact h
    · rw [dall, dall_bad h m (by omega)]
      exact dalr_bad (j := 0) rfl _ (by omega)
theorem lnR_ok {n d i m : Nat} {l : Nat → Nat} {f : Nat → Int32} (hf : nok n d f) (hl : lok n l m) (hm : 2 ≤ m) : dok n d (lnR d i l m f) := by
  unfold lnR
  split
  · exact drow_ok hf hl.1 (m - 1) (by omega)
  · split
    · exact dj_ok (drow_ok hf hl.1 (m - 1) (by omega)) (hl.1 _ (by omega)) (hl.1 _ (by omega))
    · split
      · exact dall_ok hf hl.1 (m - 1) (by omega)
      · split
        · exact dstr_ok hf hl.1 (m - 1) (by omega)
        · unfold doff
          refine ⟨fun g q => ?_, fun e q => ?_⟩
          · split at q
            · cases q; exact nok_pt hf (hl.1 _ (by omega)) (hl.1 _ (by omega))
            · cases q
          · split at q
            · cases q
            · cases q; exact Or.inl rfl
/-- a clause: a fault (0: none), the token at hand, the net -/
abbrev ccS : Type := Nat × Nat × (Nat → Int32)
/-- the knots of a clause of the i-th kind -/
def clK (tb : Nat → Nat) (z n i b : Nat) : kS := if i = 4 then kn1 tb z n (kn1 tb z n (0, nb tb z b, fun _ => 0, 0)) else knL tb z n 11 (kn1 tb z n (kn1 tb z n (0, nb tb z b, fun _ => 0, 0)))
def clE (tb : Nat → Nat) (z d i : Nat) (f : Nat → Int32) (s : kS) : ccS := if s.1 ≠ 0 then (s.1, s.2.1, f) else if kd tb z s.2.1 ≠ 3 then (1, s.2.1, f) else match lnR d i s.2.2.1 s.2.2.2 f with
  | .inr e => (e, s.2.1, f)
  | .inl g => (0, nb tb z s.2.1, g)
noncomputable def clS (tb : Nat → Nat) (z n d : Nat) (f : Nat → Int32) (c b : Nat) : ccS := match kwI tb z b with
  | none => (1, b, f)
  | some i => if 4 < i then (1, b, f) else if c = 20 then (2, b, f) else clE tb z d i f (clK tb z n i b)
noncomputable def csS (tb : Nat → Nat) (z n d : Nat) : Nat → (Nat → Int32) → Nat → Nat → ccS
  | 0, f, _, b => (0, b, f)
  | u + 1, f, c, b => if kd tb z b = 0 then (0, b, f) else if (clS tb z n d f c b).1 ≠ 0 then clS tb z n d f c b else csS tb z n d u (clS tb z n d f c b).2.2 (c + 1) (clS tb z n d f c b).2.1
theorem clK_ok {tb : Nat → Nat} {z n i b : Nat} (hb : b ≤ z) : (clK tb z n i b).2.1 ≤ z ∧ lok n (clK tb z n i b).2.2.1 (clK tb z n i b).2.2.2 ∧ (clK tb z n i b).1 ≤ 6 := by
  obtain ⟨a1, a2, a3⟩ := kn1_ok (tb := tb) (z := z) (n := n) (s := (0, nb tb z b, fun _ => 0, 0)) (nb_le hb) (lok_0 n _) (by show 0 ≤ 6; omega)
  obtain ⟨b1_, b2_, b3_⟩ := kn1_ok (tb := tb) (z := z) (n := n) a1 a2 a3
  unfold clK
  split
  · exact ⟨b1_, b2_, b3_⟩
  · exact knL_ok 11 b1_ b2_ b3_
theorem kn1_m {tb : Nat → Nat} {z n : Nat} {s : kS} (h : (kn1 tb z n s).1 = 0) : s.1 = 0 ∧ (kn1 tb z n s).2.2.2 = s.2.2.2 + 1 := by
  unfold kn1 at h ⊢
  split
  · rename_i q
    rw [if_pos q] at h
    exact absurd h q
  · rename_i q
    rw [if_neg q] at h
    split
    · exact ⟨by omega, rfl⟩
    · rename_i q2
      rw [if_neg q2] at h
      exact absurd h q2
theorem knL_m {tb : Nat → Nat} {z n : Nat} : ∀ (u : Nat) {s : kS}, (knL tb z n u s).1 = 0 → s.1 = 0 ∧ s.2.2.2 ≤ (knL tb z n u s).2.2.2
  | 0, s, h => ⟨h, Nat.le_refl _⟩
  | u + 1, s, h => by
    rw [knL] at h ⊢
    split
    · rename_i q
      rw [if_pos q] at h
      obtain ⟨a, b⟩ := knL_m u h
      exact ⟨q.1, by have := (kn1_m a).2; omega⟩
    · rename_i q
      rw [if_neg q] at h
      exact ⟨h, Nat.le_refl _⟩
theorem clK_2 {tb : Nat → Nat} {z n i b : Nat} (h : (clK tb z n i b).1 = 0) : 2 ≤ (clK tb z n i b).2.2.2 := by
  unfold clK at h ⊢
  split
  · rename_i q
    rw [if_pos q] at h
    obtain ⟨a, e⟩ := kn1_m h
    obtain ⟨-, e2⟩ := kn1_m a
    rw [e, e2]; exact Nat.le_refl _
  · rename_i q
    rw [if_neg q] at h
    obtain ⟨a, e⟩ := knL_m 11 h
    obtain ⟨a2, e2⟩ := kn1_m a
    obtain ⟨-, e3⟩ := kn1_m a2
    rw [e2, e3] at e
    exact e
/-- a clause keeps the net a net -/
theorem clS_ok {tb : Nat → Nat} {z n d c b : Nat} {f : Nat → Int32} (hf : nok n d f) (hb : b ≤ z) : (clS tb z n d f c b).1 ≤ 6 ∧ (clS tb z n d f c b).2.1 ≤ z ∧ ((clS tb z n d f c b).1 = 0 → nok n d (clS tb z n d f c b).2.2) := by
  unfold clS
  split
  · exact ⟨by show 1 ≤ 6; omega, hb, fun e => (by cases e)⟩
  · rename_i i _
    split
    · exact ⟨by show 1 ≤ 6; omega, hb, fun e => (by cases e)⟩
    · split
      · exact ⟨by show 2 ≤ 6; omega, hb, fun e => (by cases e)⟩
      · obtain ⟨k1, k2, k3⟩ := clK_ok (tb := tb) (z := z) (n := n) (i := i) hb
        have k4 := clK_2 (tb := tb) (z := z) (n := n) (i := i) (b := b)
        generalize clK tb z n i b = s at k1 k2 k3 k4
        unfold clE
        split
        · rename_i q
          exact ⟨k3, k1, fun e => absurd e q⟩
        · rename_i q
          split
          · exact ⟨by show 1 ≤ 6; omega, k1, fun e => (by cases e)⟩
          · have hd := lnR_ok (i := i) hf k2 (k4 (by omega))
            split
            · rename_i e he
              have := hd.2 e he
              exact ⟨by show e ≤ 6; omega, k1, fun e0 => by have e0 : e = 0 := e0; omega⟩
            · rename_i g hg
              exact ⟨by show 0 ≤ 6; omega, nb_le k1, fun _ => hd.1 g hg⟩
theorem csS_ok {tb : Nat → Nat} {z n d : Nat} : ∀ (u : Nat) {f : Nat → Int32} {c b : Nat}, nok n d f → b ≤ z → (csS tb z n d u f c b).1 ≤ 6 ∧ (csS tb z n d u f c b).2.1 ≤ z ∧ ((csS tb z n d u f c b).1 = 0 → nok n d (csS tb z n d u f c b).2.2)
  | 0, f, c, b, hf, hb => ⟨by show 0 ≤ 6; omega, hb, fun _ => hf⟩
  | u + 1, f, c, b, hf, hb => by
    rw [csS]
    split
    · exact ⟨by show 0 ≤ 6; omega, hb, fun _ => hf⟩
    · obtain ⟨a1, a2, a3⟩ := clS_ok (tb := tb) (z := z) (c := c) hf hb
      split
      · exact ⟨a1, a2, a3⟩
      · exact csS_ok u (a3 (by omega)) a2
/-- the whole text: a fault and its place, or a net -/
abbrev rS2 : Type := (Nat × Nat) ⊕ (Nat × Nat × (Nat → Int32))
def needS (tb : Nat → Nat) (z e b : Nat) (is : Bool) : Nat × Nat := if e ≠ 0 then (e, b) else if is = true then (0, nb tb z b) else (1, b)
def numS (tb : Nat → Nat) (z lo hi e b : Nat) : Nat × Nat := if e ≠ 0 then (e, b) else if nuE tb z lo hi b = 0 then (0, nb tb z b) else (nuE tb z lo hi b, b)
/-- the head of a text, token by token -/
noncomputable def rq1 (tb : Nat → Nat) (z : Nat) : Nat × Nat := needS tb z 0 (sk tb z 0) (isWb tb z (sk tb z 0) 5)
noncomputable def rq2 (tb : Nat → Nat) (z : Nat) : Nat × Nat := numS tb z 1 24 (rq1 tb z).1 (rq1 tb z).2
noncomputable def rq3 (tb : Nat → Nat) (z : Nat) : Nat × Nat := needS tb z (rq2 tb z).1 (rq2 tb z).2 (isWb tb z (rq2 tb z).2 6)
noncomputable def rq4 (tb : Nat → Nat) (z : Nat) : Nat × Nat := numS tb z 1 8 (rq3 tb z).1 (rq3 tb z).2
noncomputable def rq5 (tb : Nat → Nat) (z : Nat) : Nat × Nat := needS tb z (rq4 tb z).1 (rq4 tb z).2 (decide (kd tb z (rq4 tb z).2 = 3))
noncomputable def rqN (tb : Nat → Nat) (z : Nat) : Nat := rv tb z (rq1 tb z).2
noncomputable def rqD (tb : Nat → Nat) (z : Nat) : Nat := rv tb z (rq3 tb z).2
noncomputable def rqR (tb : Nat → Nat) (z : Nat) : ccS := csS tb z (rqN tb z) (rqD tb z) 22 (fun _ => nI 0) 0 (rq5 tb z).2
noncomputable def rdS (tb : Nat → Nat) (z : Nat) : rS2 := if (rq5 tb z).1 ≠ 0 then .inl (rq5 tb z) else if (rqR tb z).1 ≠ 0 then .inl ((rqR tb z).1, (rqR tb z).2.1) else .inr (rqN tb z, rqD tb z, (rqR tb z).2.2)
theorem nuE_0 {tb : Nat → Nat} {z lo hi b : Nat} (h : nuE tb z lo hi b = 0) : kd tb z b = 2 ∧ en tb z b - b ≤ 3 ∧ lo ≤ rv tb z b ∧ rv tb z b ≤ hi := by
  unfold nuE at h
  split at h
  · omega
  · split at h
    · omega
    · exact ⟨by omega, by omega, by omega, by omega⟩
theorem nok_zero0 {n d : Nat} (h1 : 1 ≤ n) (h2 : n ≤ 24) (h3 : 1 ≤ d) (h4 : d ≤ 8) : nok n d (fun _ => nI 0) :=
  ⟨h1, h2, h3, h4, fun _ _ _ _ => by rw [show ∀ k, bt (nI 0) k = false from b_0, show ∀ k, bt (nI 0) k = false from b_0], fun _ _ => b_0 _, fun _ _ _ _ => b_0 _, fun _ _ => by rw [pc32_0]; omega, fun _ _ _ => rfl⟩
theorem needS_z {tb : Nat → Nat} {z e b : Nat} {is : Bool} (h : (needS tb z e b is).1 = 0) : e = 0 ∧ is = true ∧ (needS tb z e b is).2 = nb tb z b := by
  unfold needS at h ⊢
  by_cases c : e ≠ 0
  · rw [if_pos c] at h; exact absurd h c
  · rw [if_neg c] at h ⊢
    cases is with
    | true => exact ⟨by omega, rfl, rfl⟩
    | false => cases h
theorem needS_bad {tb : Nat → Nat} {z e b : Nat} {is : Bool} (h : e ≠ 0) : needS tb z e b is = (e, b) := if_pos h
theorem needS_f {tb : Nat → Nat} {z b : Nat} : needS tb z 0 b false = (1, b) := rfl
theorem needS_t {tb : Nat → Nat} {z b : Nat} : needS tb z 0 b true = (0, nb tb z b) := rfl
theorem needS_ok {tb : Nat → Nat} {z e b : Nat} {is : Bool} (hb : b ≤ z) (he : e ≤ 6) : (needS tb z e b is).2 ≤ z ∧ (needS tb z e b is).1 ≤ 6 := by
  unfold needS
  split
  · exact ⟨hb, he⟩
  · split
    · exact ⟨nb_le hb, by show 0 ≤ 6; omega⟩
    · exact ⟨hb, by show 1 ≤ 6; omega⟩
theorem numS_z {tb : Nat → Nat} {z lo hi e b : Nat} (h : (numS tb z lo hi e b).1 = 0) : e = 0 ∧ nuE tb z lo hi b = 0 ∧ (numS tb z lo hi e b).2 = nb tb z b := by
  unfold numS at h ⊢
  by_cases c : e ≠ 0
  · rw [if_pos c] at h; exact absurd h c
  · rw [if_neg c] at h ⊢
    by_cases c2 : nuE tb z lo hi b = 0
    · rw [if_pos c2]; exact ⟨by omega, c2, rfl⟩
    · rw [if_neg c2] at h; exact absurd h c2
theorem numS_bad {tb : Nat → Nat} {z lo hi e b : Nat} (h : e ≠ 0) : numS tb z lo hi e b = (e, b) := if_pos h
theorem numS_0 {tb : Nat → Nat} {z lo hi b : Nat} (h : nuE tb z lo hi b = 0) : numS tb z lo hi 0 b = (0, nb tb z b) := by
  unfold numS
  rw [if_neg (by decide), if_pos h]
theorem numS_f {tb : Nat → Nat} {z lo hi b : Nat} (h : nuE tb z lo hi b ≠ 0) : numS tb z lo hi 0 b = (nuE tb z lo hi b, b) := by
  unfold numS
  rw [if_neg (by decide), if_neg h]
theorem numS_ok {tb : Nat → Nat} {z lo hi e b : Nat} (hb : b ≤ z) (he : e ≤ 6) : (numS tb z lo hi e b).2 ≤ z ∧ (numS tb z lo hi e b).1 ≤ 6 := by
  have := nuE_le tb z lo hi b
  unfold numS
  split
  · exact ⟨hb, he⟩
  · split
    · exact ⟨nb_le hb, by show 0 ≤ 6; omega⟩
    · exact ⟨hb, by show nuE tb z lo hi b ≤ 6; omega⟩
theorem rq_ok (tb : Nat → Nat) (z : Nat) : ((rq1 tb z).2 ≤ z ∧ (rq1 tb z).1 ≤ 6) ∧ ((rq2 tb z).2 ≤ z ∧ (rq2 tb z).1 ≤ 6) ∧ ((rq3 tb z).2 ≤ z ∧ (rq3 tb z).1 ≤ 6) ∧ ((rq4 tb z).2 ≤ z ∧ (rq4 tb z).1 ≤ 6) ∧ ((rq5 tb z).2 ≤ z ∧ (rq5 tb z).1 ≤ 6) := by
  have a1 : (rq1 tb z).2 ≤ z ∧ (rq1 tb z).1 ≤ 6 := needS_ok ((sk_ge tb z 0).2 (by omega)) (by omega)
  have a2 : (rq2 tb z).2 ≤ z ∧ (rq2 tb z).1 ≤ 6 := numS_ok a1.1 a1.2
  have a3 : (rq3 tb z).2 ≤ z ∧ (rq3 tb z).1 ≤ 6 := needS_ok a2.1 a2.2
  have a4 : (rq4 tb z).2 ≤ z ∧ (rq4 tb z).1 ≤ 6 := numS_ok a3.1 a3.2
  exact ⟨a1, a2, a3, a4, needS_ok a4.1 a4.2⟩
theorem rq_0 {tb : Nat → Nat} {z : Nat} (h : (rq5 tb z).1 = 0) : (rq2 tb z).1 = 0 ∧ (rq4 tb z).1 = 0 ∧ 1 ≤ rqN tb z ∧ rqN tb z ≤ 24 ∧ 1 ≤ rqD tb z ∧ rqD tb z ≤ 8 := by
  have h4 : (rq4 tb z).1 = 0 := (needS_z h).1
  obtain ⟨h3, n4, -⟩ := numS_z h4
  have h2 : (rq2 tb z).1 = 0 := (needS_z h3).1
  obtain ⟨-, n2, -⟩ := numS_z h2
  have u2 := nuE_0 n2
  have u4 := nuE_0 n4
  exact ⟨h2, h4, u2.2.2.1, u2.2.2.2, u4.2.2.1, u4.2.2.2⟩
theorem rq_5 {tb : Nat → Nat} {z : Nat} (h : (rq4 tb z).1 ≠ 0) : rq5 tb z = rq4 tb z := needS_bad h
theorem rq_4 {tb : Nat → Nat} {z : Nat} (h : (rq3 tb z).1 ≠ 0) : rq4 tb z = rq3 tb z := numS_bad h
theorem rq_3 {tb : Nat → Nat} {z : Nat} (h : (rq2 tb z).1 ≠ 0) : rq3 tb z = rq2 tb z := needS_bad h
theorem rq_2 {tb : Nat → Nat} {z : Nat} (h : (rq1 tb z).1 ≠ 0) : rq2 tb z = rq1 tb z := numS_bad h
theorem rdS_5 {tb : Nat → Nat} {z : Nat} (h : (rq5 tb z).1 ≠ 0) : rdS tb z = .inl (rq5 tb z) := if_pos h
theorem rdS_R {tb : Nat → Nat} {z : Nat} (h : (rq5 tb z).1 = 0) : rdS tb z = if (rqR tb z).1 ≠ 0 then .inl ((rqR tb z).1, (rqR tb z).2.1) else .inr (rqN tb z, rqD tb z, (rqR tb z).2.2) := if_neg (fun w => w h)
theorem rdS_4 {tb : Nat → Nat} {z : Nat} (h : (rq4 tb z).1 ≠ 0) : rdS tb z = .inl (rq4 tb z) := by
  rw [rdS_5 (by rw [rq_5 h]; exact h), rq_5 h]
theorem rdS_3 {tb : Nat → Nat} {z : Nat} (h : (rq3 tb z).1 ≠ 0) : rdS tb z = .inl (rq3 tb z) := by
  rw [rdS_4 (by rw [rq_4 h]; exact h), rq_4 h]
theorem rdS_2 {tb : Nat → Nat} {z : Nat} (h : (rq2 tb z).1 ≠ 0) : rdS tb z = .inl (rq2 tb z) := by
  rw [rdS_3 (by rw [rq_3 h]; exact h), rq_3 h]
theorem rdS_1 {tb : Nat → Nat} {z : Nat} (h : (rq1 tb z).1 ≠ 0) : rdS tb z = .inl (rq1 tb z) := by
  rw [rdS_2 (by rw [rq_2 h]; exact h), rq_2 h]
theorem clS_20 {tb : Nat → Nat} {z n d b : Nat} {f : Nat → Int32} : (clS tb z n d f 20 b).1 ≠ 0 := by
  unfold clS
  split
  · exact Nat.one_ne_zero
  · split
    · exact Nat.one_ne_zero
    · rw [if_pos rfl]; exact (by decide : (2 : Nat) ≠ 0)
end C9yt
end
section
/-! read: the reference's tokens -/
section C9yu
theorem lN_bv (n : Nat) : (lN n).toBitVec = BitVec.ofNat 64 n := rfl
theorem lN_nat {n : Nat} (h : n < 2 ^ 64) : (lN n).toBitVec.toNat = n := by rw [lN_bv, BitVec.toNat_ofNat, Nat.mod_eq_of_lt h]
theorem wsh {w x : Nat} (hw : w < 2 ^ 40) (hx : x < 32) : (lN w <<< ((nI 5).toInt64 &&& 63)) ||| (nI x).toInt64 = lN (w * 32 + x) := by
  have e1 : (nI 5).toInt64 &&& 63 = 5 := by decide +kernel
  have e2 : (nI x).toInt64 = lN x := (by decide +kernel : ∀ x, x < 32 → (nI x).toInt64 = lN x) x hx
  rw [e1, e2]
  refine Int64.toBitVec_inj.mp ?_
  have e3 : (5 : Int64).toBitVec.smod 64 = 5#64 := by decide +kernel
  rw [Int64.toBitVec_or, Int64.toBitVec_shiftLeft, e3, lN_bv, lN_bv, lN_bv]
  refine BitVec.eq_of_toNat_eq ?_
  rw [BitVec.toNat_or, BitVec.shiftLeft_eq', BitVec.toNat_shiftLeft, BitVec.toNat_ofNat, BitVec.toNat_ofNat, BitVec.toNat_ofNat, BitVec.toNat_ofNat]
  rw [Nat.mod_eq_of_lt (show w < 2 ^ 64 by omega), Nat.mod_eq_of_lt (show x < 2 ^ 64 by omega), Nat.mod_eq_of_lt (show 5 < 2 ^ 64 by decide), Nat.mod_eq_of_lt (show w * 32 + x < 2 ^ 64 by omega)]
  have e4 : w <<< 5 = w * 32 := by rw [Nat.shiftLeft_eq]
  rw [Nat.mod_eq_of_lt (by rw [e4]; omega), ← Nat.shiftLeft_add_eq_or_of_lt (by omega), e4]
theorem frmL2 {l : List Nat} {f g : Nat → Int64} {i : Nat} {x : Int64} (a : frm l f g) (h : i ∈ l) : frm l f (vp_updL g i x) := fun j hj => by
  have : j ≠ i := fun q => hj (q ▸ h)
  unfold vp_updL
  simp only [this, if_false]; exact a j hj
def vv (tb : Nat → Nat) (z b : Nat) : Nat := if kd tb z b = 2 then rv tb z b else 0
abbrev Tk (tb : Nat → Nat) (z : Nat) (F : Nat → Int32) (G : Nat → Int64) (b : Nat) : Prop := F 11 = nI z ∧ F 12 = nI (en tb z b) ∧ F 13 = nI (kd tb z b) ∧ F 14 = nI b ∧ F 15 = nI (en tb z b - b) ∧ F 16 = nI (vv tb z b) ∧ (kd tb z b = 1 → G 17 = lN (wcd tb b (en tb z b - b)))
theorem c_mbyteAt (F0 : Nat → Int32) (G : Nat → Int64) (A : Nat → Nat → Int32) (B : Nat → Nat → Int64) (tb : Nat → Nat) (z k : Nat) (hz : z ≤ 400) (hk : k ≤ 400) (h11 : F0 11 = nI z) (ht : ∀ i, i < z → A 7 i = nI (tb i)) : zCtr yX6_byteAt cX6_byteAt 2 (some .int) 0 0 0 [zr 1 0, zi (nI k)] [zH, zG F0 G A B] (fun r w => r = some (zi (nI (if k < z then tb k else 0))) ∧ w = [zH, zG F0 G A B]) zNx := by
  refine z_start (by decide) [some (zr 1 0), some (zi (nI k))] rfl (fun _ => Nat.le_of_ble_eq_true rfl) (fun _ => rfl) (fun X F E hno hin => ?_)
  refine z_iload_n F dX6_byteAt_0 rfl ?_
  refine z_aload_n F dX6_byteAt_1 rfl ?_
  refine z_mi F rfl 11 rfl (Nat.le_of_ble_eq_true rfl) rfl q1491 dX6_byteAt_2 ?_
  refine z_ieq (h11) ?_
  refine z_icmp_geN F (by omega) (by omega) (tgt := 17) dX6_byteAt_5 (by decide) (fun c_5 => ?_) (fun c_5 => ?_)
  · refine z_iconst F (nI 0) dX6_byteAt_17 rfl ?_
    exact z_iret F E rfl dX6_byteAt_18 (by omega) (by omega) (⟨by rw [if_neg (by omega)], rfl⟩)
  · refine z_aload_n F dX6_byteAt_8 rfl ?_
    refine z_ma F rfl 7 rfl (Nat.le_of_ble_eq_true rfl) rfl q1487 dX6_byteAt_9 ?_
    refine z_iload_n F dX6_byteAt_12 rfl ?_
    refine z_ialdGN F rfl rfl (Nat.le_of_ble_eq_true rfl) (by omega) rfl dX6_byteAt_13 ?_
    refine z_ieq (ht k (by omega)) ?_
    refine z_goto F (tgt := 18) dX6_byteAt_14 (by decide) ?_
    exact z_iret F E rfl dX6_byteAt_18 (by omega) (by omega) (⟨by rw [if_pos (by omega)], rfl⟩)
theorem c_misL (c : Nat) (hc : c < 256) : zCtr yX6_isLetter cX6_isLetter 1 (some .boolean) 0 0 0 [zi (nI c)] [zH] (fun r w => r = some (zi (bI (isL c))) ∧ w = [zH]) zNx := by
  refine z_start (by decide) [some (zi (nI c))] rfl (fun _ => Nat.le_of_ble_eq_true rfl) (fun _ => rfl) (fun X F E hno hin => ?_)
  refine z_iload_n F dX6_isLetter_0 rfl ?_
  refine z_bipush F (nI 97) dX6_isLetter_1 rfl ?_
  refine z_icmp_ltN F (by omega) (by omega) (tgt := 16) dX6_isLetter_3 (by decide) (fun c_3 => ?_) (fun c_3 => ?_)
  · refine z_iconstB F false dX6_isLetter_16 rfl ?_
    exact z_zret F E rfl (bI_nar _) dX6_isLetter_17 (by omega) (by omega) (⟨by rw [isL, decide_eq_false (by omega)], rfl⟩)
  · refine z_iload_n F dX6_isLetter_6 rfl ?_
    refine z_bipush F (nI 122) dX6_isLetter_7 rfl ?_
    refine z_icmp_gtN F (by omega) (by omega) (tgt := 16) dX6_isLetter_9 (by decide) (fun c_9 => ?_) (fun c_9 => ?_)
    · refine z_iconstB F false dX6_isLetter_16 rfl ?_
      exact z_zret F E rfl (bI_nar _) dX6_isLetter_17 (by omega) (by omega) (⟨by rw [isL, decide_eq_false (by omega)], rfl⟩)
    · refine z_iconstB F true dX6_isLetter_12 rfl ?_
      refine z_goto F (tgt := 17) dX6_isLetter_13 (by decide) ?_
      exact z_zret F E rfl (bI_nar _) dX6_isLetter_17 (by omega) (by omega) (⟨by rw [isL, decide_eq_true (by omega)], rfl⟩)
theorem c_misD (c : Nat) (hc : c < 256) : zCtr yX6_isDigit cX6_isDigit 1 (some .boolean) 0 0 0 [zi (nI c)] [zH] (fun r w => r = some (zi (bI (isD c))) ∧ w = [zH]) zNx := by
  refine z_start (by decide) [some (zi (nI c))] rfl (fun _ => Nat.le_of_ble_eq_true rfl) (fun _ => rfl) (fun X F E hno hin => ?_)
  refine z_iload_n F dX6_isDigit_0 rfl ?_
  refine z_bipush F (nI 48) dX6_isDigit_1 rfl ?_
  refine z_icmp_ltN F (by omega) (by omega) (tgt := 16) dX6_isDigit_3 (by decide) (fun c_3 => ?_) (fun c_3 => ?_)
  · refine z_iconstB F false dX6_isDigit_16 rfl ?_
    exact z_zret F E rfl (bI_nar _) dX6_isDigit_17 (by omega) (by omega) (⟨by rw [isD, decide_eq_false (by omega)], rfl⟩)
  · refine z_iload_n F dX6_isDigit_6 rfl ?_
    refine z_bipush F (nI 57) dX6_isDigit_7 rfl ?_
    refine z_icmp_gtN F (by omega) (by omega) (tgt := 16) dX6_isDigit_9 (by decide) (fun c_9 => ?_) (fun c_9 => ?_)
    · refine z_iconstB F false dX6_isDigit_16 rfl ?_
      exact z_zret F E rfl (bI_nar _) dX6_isDigit_17 (by omega) (by omega) (⟨by rw [isD, decide_eq_false (by omega)], rfl⟩)
    · refine z_iconstB F true dX6_isDigit_12 rfl ?_
      refine z_goto F (tgt := 17) dX6_isDigit_13 (by decide) ?_
      exact z_zret F E rfl (bI_nar _) dX6_isDigit_17 (by omega) (by omega) (⟨by rw [isD, decide_eq_true (by omega)], rfl⟩)
theorem c_mrdGo (F0 : Nat → Int32) (G0 : Nat → Int64) (A : Nat → Nat → Int32) (B : Nat → Nat → Int64) (tb : Nat → Nat) (z p : Nat) (hz : z ≤ 400) (hp : p ≤ z) (htb : ∀ i, tb i < 256) (h11 : F0 11 = nI z) (h12 : F0 12 = nI p) (ht : ∀ i, i < z → A 7 i = nI (tb i)) : zCtr yX6_goes cX6_goes 2 none 1 0 0 [zr 1 0] [zH, zG F0 G0 A B] (fun r w => r = none ∧ ∃ F' G', w = [zH, zG F' G' A B] ∧ Tk tb z F' G' (sk tb z p) ∧ frm [12, 13, 14, 15, 16] F0 F' ∧ frm [17] G0 G') zNx := by
  refine z_start (by decide) [some (zr 1 0), none] rfl (fun _ => Nat.le_of_ble_eq_true rfl) (fun _ => rfl) (fun X F E hno hin => ?_)
  have hb1 := sk_ge tb z p
  have hb2 := hb1.2 hp
  generalize hb : sk tb z p = b at hb1 hb2 E
  have he1 := en_ge tb z b
  have he2 := he1.2 hb2
  have hkd := kd_lt tb z b
  have hvv : vv tb z b < 1000 := by
    unfold vv
    split
    · rename_i q
      exact rvd_999 (tk_D q).2.2.2
    · omega
  have fin : ∀ (F1 : Nat → Int32) (G1 : Nat → Int64), F1 11 = nI z → F1 12 = nI (en tb z b) → F1 13 = nI (kd tb z b) → F1 14 = nI b → F1 16 = nI (vv tb z b) → (kd tb z b = 1 → G1 17 = lN (wcd tb b (en tb z b - b))) → frm [12, 13, 14, 15, 16] F0 F1 → frm [17] G0 G1 → Z X [some (zr 1 0), none] [] [zH, zG F1 G1 A B] 0 0 278 := by
    intro F1 G1 g11 g12 g13 g14 g16 gw gF gG
    refine z_aload_n F dX6_goes_278 rfl ?_
    refine z_aload_n F dX6_goes_279 rfl ?_
    refine z_mi F rfl 12 rfl (Nat.le_of_ble_eq_true rfl) rfl q1492 dX6_goes_280 ?_
    refine z_ieq (g12) ?_
    refine z_aload_n F dX6_goes_283 rfl ?_
    refine z_mi F rfl 14 rfl (Nat.le_of_ble_eq_true rfl) rfl q1494 dX6_goes_284 ?_
    refine z_ieq (g14) ?_
    refine z_isubN F (by omega) dX6_goes_287 ?_
    refine z_pmi F rfl 15 rfl (Nat.le_of_ble_eq_true rfl) rfl q1495 rfl rfl rfl dX6_goes_288 ?_
    refine z_weq (w' := [_, _]) rfl ?_
    exact z_vret F E rfl dX6_goes_291 (by omega) (by omega) (⟨rfl, _, G1, rfl, ⟨g11, g12, g13, g14, rfl, g16, gw⟩, frm_upd gF (by decide), gG⟩)
  have let_ : isL (tb b) = true → b < z → ∀ (u q : Nat) (F1 : Nat → Int32) (G1 : Nat → Int64), z - q < u → b ≤ q → q ≤ z → rn (fun k => isL (tb k)) z q = en tb z b → (∀ k, k < q - b → isL (tb (b + k)) = true) → F1 11 = nI z → F1 12 = nI q → F1 14 = nI b → F1 16 = nI 0 → G1 17 = lN (wcd tb b (q - b)) → frm [12, 13, 14, 15, 16] F0 F1 → frm [17] G0 G1 → Z X [some (zr 1 0), none] [] [zH, zG F1 G1 A B] 0 0 103 := by
    intro hL hbz u
    induction u with
    | zero => intro q F1 G1 hu; omega
    | succ u ih =>
      intro q F1 G1 hu hbq hqz hrn hall_ g11 g12 g14 g16 gw gF gG
      have hk1 : kd tb z b = 1 := by unfold kd; rw [if_neg (by omega), if_pos hL]
      have hc256 : (if q < z then tb q else 0) < 256 := by
        split
        · exact htb q
        · omega
      have hwl : wcd tb b (q - b) < 2 ^ 35 := Nat.lt_of_lt_of_le (wcd_lt tb b (q - b) hall_) (by
        have : 32 ^ min (q - b) 7 ≤ 32 ^ 7 := Nat.pow_le_pow_right (by decide) (by omega)
        omega)
      have go : isL (tb q) = true → q < z → ∀ (G2 : Nat → Int64), G2 17 = lN (wcd tb b (q + 1 - b)) → frm [17] G0 G2 → Z X [some (zr 1 0), none] [] [zH, zG F1 G2 A B] 0 0 154 := by
        intro hl hq G2 gw2 gG2
        refine z_aload_n F dX6_goes_154 rfl ?_
        refine z_dup F dX6_goes_155 rfl ?_
        refine z_mi F rfl 12 rfl (Nat.le_of_ble_eq_true rfl) rfl q1492 dX6_goes_156 ?_
        refine z_ieq (g12) ?_
        refine z_iconst F (nI 1) dX6_goes_159 rfl ?_
        refine z_iaddN F dX6_goes_160 ?_
        refine z_pmi F rfl 12 rfl (Nat.le_of_ble_eq_true rfl) rfl q1492 rfl rfl rfl dX6_goes_161 ?_
        refine z_weq (w' := [_, _]) rfl ?_
        refine z_goto F (tgt := 103) dX6_goes_164 (by decide) ?_
        refine ih (q + 1) _ G2 (by omega) (by omega) (by omega) ?_ (fun k hk => ?_) g11 rfl g14 g16 gw2 (frm_upd gF (by decide)) gG2
        · rw [← hrn]; exact (rn_step (p := fun k => isL (tb k)) hq hl).symm
        · by_cases e : k = q - b
          · rw [e, show b + (q - b) = q by omega]; exact hl
          · exact hall_ k (by omega)
      refine z_aload_n F dX6_goes_103 rfl ?_
      refine z_aload_n F dX6_goes_104 rfl ?_
      refine z_mi F rfl 12 rfl (Nat.le_of_ble_eq_true rfl) rfl q1492 dX6_goes_105 ?_
      refine z_ieq (g12) ?_
      refine z_callV F (c_mbyteAt F1 G1 A B tb z q hz (by omega) g11 ht) 1 rfl (lw_V q1783 q1785 qs51 q117 q1786) (by decide +kernel) ⟨Nat.le_of_ble_eq_true rfl, Nat.le_of_ble_eq_true rfl⟩ ⟨by omega, by omega⟩ [0, 1] 2 ⟨rfl, rfl, rfl, ⟨Or.inl rfl, Or.inr rfl, trivial⟩⟩ (fun h => nomatch h) (Nat.le_of_ble_eq_true rfl) ⟨⟨Or.inr trivial, Or.inl rfl, trivial⟩, rfl, rfl, rfl, Nat.le_of_ble_eq_true rfl⟩ rfl zC6 (zat_G0 rfl) rfl dX6_goes_108 (fun r_108 w_108 hp => ?_) (fun _ _ h => h.elim)
      obtain ⟨rfl, rfl⟩ := hp
      refine z_weq (w' := [zH, zG _ _ _ _]) rfl ?_
      refine z_seq (S' := zi _ :: _) rfl ?_
      refine z_callS F (c_misL _ hc256) 1 rfl (lw_S q1787 q1788 q117 q1789) (by decide +kernel) ⟨Nat.le_of_ble_eq_true rfl, Nat.le_of_ble_eq_true rfl⟩ ⟨by omega, by omega⟩ [0] 2 ⟨rfl, rfl, rfl, ⟨Or.inl rfl, trivial⟩⟩ (fun h => nomatch h) (Nat.le_of_ble_eq_true rfl) ⟨⟨Or.inr trivial, Or.inr trivial, trivial⟩, rfl, rfl, rfl, Nat.le_of_ble_eq_true rfl⟩ rfl rfl dX6_goes_111 (fun r_111 w_111 hp => ?_) (fun _ _ h => h.elim)
      obtain ⟨rfl, rfl⟩ := hp
      refine z_weq (w' := [zH, zG _ _ _ _]) rfl ?_
      refine z_seq (S' := zi _ :: _) rfl ?_
      refine z_if_eqB F (tgt := 167) dX6_goes_114 (by decide) (fun c_114 => ?_) (fun c_114 => ?_)
      · refine z_aload_n F dX6_goes_167 rfl ?_
        refine z_iconst F (nI 1) dX6_goes_168 rfl ?_
        refine z_pmi F rfl 13 rfl (Nat.le_of_ble_eq_true rfl) rfl q1493 rfl rfl rfl dX6_goes_169 ?_
        refine z_weq (w' := [_, _]) rfl ?_
        refine z_goto F (tgt := 278) dX6_goes_172 (by decide) ?_
        have hend : ¬ (q < z ∧ isL (tb q) = true) := fun w => by
          rw [if_pos w.1, w.2] at c_114; cases c_114
        have eq_ : q = en tb z b := by rw [← hrn]; exact (rn_stop (p := fun k => isL (tb k)) hend).symm
        refine fin _ G1 g11 (by rw [← eq_]; exact g12) (by rw [hk1]; rfl) g14 (by rw [vv, if_neg (by omega)]; exact g16) (fun _ => by rw [← eq_]; exact gw) (frm_upd gF (by decide)) gG
      · have hq : q < z := Nat.lt_of_not_le fun w => by
          rw [if_neg (by omega)] at c_114; exact absurd c_114 (by decide)
        have hl : isL (tb q) = true := by rw [if_pos hq] at c_114; exact c_114
        have hl2 : 97 ≤ tb q ∧ tb q ≤ 122 := by unfold isL at hl; rw [decide_eq_true_eq] at hl; exact hl
        refine z_aload_n F dX6_goes_117 rfl ?_
        refine z_mi F rfl 12 rfl (Nat.le_of_ble_eq_true rfl) rfl q1492 dX6_goes_118 ?_
        refine z_ieq (g12) ?_
        refine z_aload_n F dX6_goes_121 rfl ?_
        refine z_mi F rfl 14 rfl (Nat.le_of_ble_eq_true rfl) rfl q1494 dX6_goes_122 ?_
        refine z_ieq (g14) ?_
        refine z_isubN F (by omega) dX6_goes_125 ?_
        refine z_bipush F (nI 7) dX6_goes_126 rfl ?_
        refine z_icmp_geN F (by omega) (by omega) (tgt := 154) dX6_goes_128 (by decide) (fun c_128 => ?_) (fun c_128 => ?_)
        · exact go hl hq G1 (by
            rw [gw, show q + 1 - b = (q - b) + 1 by omega, wcd, if_neg (by omega)]) gG
        · refine z_aload_n F dX6_goes_131 rfl ?_
          refine z_aload_n F dX6_goes_132 rfl ?_
          refine z_ml F rfl 17 rfl (Nat.le_of_ble_eq_true rfl) rfl q1497 dX6_goes_133 ?_
          refine z_iconst F (nI 5) dX6_goes_136 rfl ?_
          refine z_lshl F dX6_goes_137 ?_
          refine z_aload_n F dX6_goes_138 rfl ?_
          refine z_aload_n F dX6_goes_139 rfl ?_
          refine z_mi F rfl 12 rfl (Nat.le_of_ble_eq_true rfl) rfl q1492 dX6_goes_140 ?_
          refine z_ieq (g12) ?_
          refine z_callV F (c_mbyteAt F1 G1 A B tb z q hz (by omega) g11 ht) 1 rfl (lw_V q1783 q1785 qs51 q117 q1786) (by decide +kernel) ⟨Nat.le_of_ble_eq_true rfl, Nat.le_of_ble_eq_true rfl⟩ ⟨by omega, by omega⟩ [0, 1] 2 ⟨rfl, rfl, rfl, ⟨Or.inl rfl, Or.inr rfl, trivial⟩⟩ (fun h => nomatch h) (Nat.le_of_ble_eq_true rfl) ⟨⟨Or.inr trivial, Or.inl rfl, trivial⟩, rfl, rfl, rfl, Nat.le_of_ble_eq_true rfl⟩ rfl zC6 (zat_G0 rfl) rfl dX6_goes_143 (fun r_143 w_143 hp => ?_) (fun _ _ h => h.elim)
          obtain ⟨rfl, rfl⟩ := hp
          rw [if_pos hq]
          refine z_weq (w' := [zH, zG _ _ _ _]) rfl ?_
          refine z_seq (S' := zi _ :: _) rfl ?_
          refine z_bipush F (nI 96) dX6_goes_146 rfl ?_
          refine z_isubN F (by omega) dX6_goes_148 ?_
          refine z_i2l F dX6_goes_149 ?_
          refine z_lor F dX6_goes_150 ?_
          refine z_pml F rfl 17 rfl (Nat.le_of_ble_eq_true rfl) rfl q1497 rfl rfl rfl dX6_goes_151 ?_
          refine z_weq (w' := [_, _]) rfl ?_
          refine go hl hq _ ?_ (frmL2 gG (by decide))
          show (_ : Int64) = _
          rw [show q + 1 - b = (q - b) + 1 by omega, wcd, if_pos (by omega), show b + (q - b) = q by omega, ← wsh (by omega) (by omega), ← gw]
          rfl
  have dig_ : isL (tb b) = false → isD (tb b) = true → b < z → ∀ (u q : Nat) (F1 : Nat → Int32) (G1 : Nat → Int64), z - q < u → b ≤ q → q ≤ z → rn (fun k => isD (tb k)) z q = en tb z b → (∀ k, k < q - b → isD (tb (b + k)) = true) → F1 11 = nI z → F1 12 = nI q → F1 14 = nI b → F1 16 = nI (rvd tb b (q - b)) → frm [12, 13, 14, 15, 16] F0 F1 → frm [17] G0 G1 → Z X [some (zr 1 0), none] [] [zH, zG F1 G1 A B] 0 0 182 := by
    intro hL hD hbz u
    induction u with
    | zero => intro q F1 G1 hu; omega
    | succ u ih =>
      intro q F1 G1 hu hbq hqz hrn hall_ g11 g12 g14 g16 gF gG
      have hk2 : kd tb z b = 2 := by unfold kd; rw [if_neg (by omega), if_neg (by rw [hL]; decide), if_pos hD]
      have hc256 : (if q < z then tb q else 0) < 256 := by
        split
        · exact htb q
        · omega
      have hwl := rvd_999 hall_
      have go : isD (tb q) = true → q < z → ∀ (F2 : Nat → Int32), F2 11 = nI z → F2 12 = nI q → F2 14 = nI b → F2 16 = nI (rvd tb b (q + 1 - b)) → frm [12, 13, 14, 15, 16] F0 F2 → Z X [some (zr 1 0), none] [] [zH, zG F2 G1 A B] 0 0 232 := by
        intro hl hq F2 k11 k12 k14 k16 kF
        refine z_aload_n F dX6_goes_232 rfl ?_
        refine z_dup F dX6_goes_233 rfl ?_
        refine z_mi F rfl 12 rfl (Nat.le_of_ble_eq_true rfl) rfl q1492 dX6_goes_234 ?_
        refine z_ieq (k12) ?_
        refine z_iconst F (nI 1) dX6_goes_237 rfl ?_
        refine z_iaddN F dX6_goes_238 ?_
        refine z_pmi F rfl 12 rfl (Nat.le_of_ble_eq_true rfl) rfl q1492 rfl rfl rfl dX6_goes_239 ?_
        refine z_weq (w' := [_, _]) rfl ?_
        refine z_goto F (tgt := 182) dX6_goes_242 (by decide) ?_
        refine ih (q + 1) _ G1 (by omega) (by omega) (by omega) ?_ (fun k hk => ?_) k11 rfl k14 k16 (frm_upd kF (by decide)) gG
        · rw [← hrn]; exact (rn_step (p := fun k => isD (tb k)) hq hl).symm
        · by_cases e : k = q - b
          · rw [e, show b + (q - b) = q by omega]; exact hl
          · exact hall_ k (by omega)
      refine z_aload_n F dX6_goes_182 rfl ?_
      refine z_aload_n F dX6_goes_183 rfl ?_
      refine z_mi F rfl 12 rfl (Nat.le_of_ble_eq_true rfl) rfl q1492 dX6_goes_184 ?_
      refine z_ieq (g12) ?_
      refine z_callV F (c_mbyteAt F1 G1 A B tb z q hz (by omega) g11 ht) 1 rfl (lw_V q1783 q1785 qs51 q117 q1786) (by decide +kernel) ⟨Nat.le_of_ble_eq_true rfl, Nat.le_of_ble_eq_true rfl⟩ ⟨by omega, by omega⟩ [0, 1] 2 ⟨rfl, rfl, rfl, ⟨Or.inl rfl, Or.inr rfl, trivial⟩⟩ (fun h => nomatch h) (Nat.le_of_ble_eq_true rfl) ⟨⟨Or.inr trivial, Or.inl rfl, trivial⟩, rfl, rfl, rfl, Nat.le_of_ble_eq_true rfl⟩ rfl zC6 (zat_G0 rfl) rfl dX6_goes_187 (fun r_187 w_187 hp => ?_) (fun _ _ h => h.elim)
      obtain ⟨rfl, rfl⟩ := hp
      refine z_weq (w' := [zH, zG _ _ _ _]) rfl ?_
      refine z_seq (S' := zi _ :: _) rfl ?_
      refine z_callS F (c_misD _ hc256) 1 rfl (lw_S q1790 q1791 q117 q1792) (by decide +kernel) ⟨Nat.le_of_ble_eq_true rfl, Nat.le_of_ble_eq_true rfl⟩ ⟨by omega, by omega⟩ [0] 2 ⟨rfl, rfl, rfl, ⟨Or.inl rfl, trivial⟩⟩ (fun h => nomatch h) (Nat.le_of_ble_eq_true rfl) ⟨⟨Or.inr trivial, Or.inr trivial, trivial⟩, rfl, rfl, rfl, Nat.le_of_ble_eq_true rfl⟩ rfl rfl dX6_goes_190 (fun r_190 w_190 hp => ?_) (fun _ _ h => h.elim)
      obtain ⟨rfl, rfl⟩ := hp
      refine z_weq (w' := [zH, zG _ _ _ _]) rfl ?_
      refine z_seq (S' := zi _ :: _) rfl ?_
      refine z_if_eqB F (tgt := 245) dX6_goes_193 (by decide) (fun c_193 => ?_) (fun c_193 => ?_)
      · refine z_aload_n F dX6_goes_245 rfl ?_
        refine z_iconst F (nI 2) dX6_goes_246 rfl ?_
        refine z_pmi F rfl 13 rfl (Nat.le_of_ble_eq_true rfl) rfl q1493 rfl rfl rfl dX6_goes_247 ?_
        refine z_weq (w' := [_, _]) rfl ?_
        refine z_goto F (tgt := 278) dX6_goes_250 (by decide) ?_
        have hend : ¬ (q < z ∧ isD (tb q) = true) := fun w => by
          rw [if_pos w.1, w.2] at c_193; cases c_193
        have eq_ : q = en tb z b := by rw [← hrn]; exact (rn_stop (p := fun k => isD (tb k)) hend).symm
        refine fin _ G1 g11 (by rw [← eq_]; exact g12) (by rw [hk2]; rfl) g14 (by rw [vv, if_pos hk2, rv, ← eq_]; exact g16) (fun w => by omega) (frm_upd gF (by decide)) gG
      · have hq : q < z := Nat.lt_of_not_le fun w => by
          rw [if_neg (by omega)] at c_193; exact absurd c_193 (by decide)
        have hl : isD (tb q) = true := by rw [if_pos hq] at c_193; exact c_193
        have hl2 : 48 ≤ tb q ∧ tb q ≤ 57 := by unfold isD at hl; rw [decide_eq_true_eq] at hl; exact hl
        refine z_aload_n F dX6_goes_196 rfl ?_
        refine z_mi F rfl 12 rfl (Nat.le_of_ble_eq_true rfl) rfl q1492 dX6_goes_197 ?_
        refine z_ieq (g12) ?_
        refine z_aload_n F dX6_goes_200 rfl ?_
        refine z_mi F rfl 14 rfl (Nat.le_of_ble_eq_true rfl) rfl q1494 dX6_goes_201 ?_
        refine z_ieq (g14) ?_
        refine z_isubN F (by omega) dX6_goes_204 ?_
        refine z_iconst F (nI 3) dX6_goes_205 rfl ?_
        refine z_icmp_geN F (by omega) (by omega) (tgt := 232) dX6_goes_206 (by decide) (fun c_206 => ?_) (fun c_206 => ?_)
        · exact go hl hq F1 g11 g12 g14 (by
            rw [g16, show q + 1 - b = (q - b) + 1 by omega, rvd, if_neg (by omega)]) gF
        · refine z_aload_n F dX6_goes_209 rfl ?_
          refine z_bipush F (nI 10) dX6_goes_210 rfl ?_
          refine z_aload_n F dX6_goes_212 rfl ?_
          refine z_mi F rfl 16 rfl (Nat.le_of_ble_eq_true rfl) rfl q1496 dX6_goes_213 ?_
          refine z_ieq (g16) ?_
          refine z_imulN F dX6_goes_216 ?_
          refine z_aload_n F dX6_goes_217 rfl ?_
          refine z_aload_n F dX6_goes_218 rfl ?_
          refine z_mi F rfl 12 rfl (Nat.le_of_ble_eq_true rfl) rfl q1492 dX6_goes_219 ?_
          refine z_ieq (g12) ?_
          refine z_callV F (c_mbyteAt F1 G1 A B tb z q hz (by omega) g11 ht) 1 rfl (lw_V q1783 q1785 qs51 q117 q1786) (by decide +kernel) ⟨Nat.le_of_ble_eq_true rfl, Nat.le_of_ble_eq_true rfl⟩ ⟨by omega, by omega⟩ [0, 1] 2 ⟨rfl, rfl, rfl, ⟨Or.inl rfl, Or.inr rfl, trivial⟩⟩ (fun h => nomatch h) (Nat.le_of_ble_eq_true rfl) ⟨⟨Or.inr trivial, Or.inl rfl, trivial⟩, rfl, rfl, rfl, Nat.le_of_ble_eq_true rfl⟩ rfl zC6 (zat_G0 rfl) rfl dX6_goes_222 (fun r_222 w_222 hp => ?_) (fun _ _ h => h.elim)
          obtain ⟨rfl, rfl⟩ := hp
          rw [if_pos hq]
          refine z_weq (w' := [zH, zG _ _ _ _]) rfl ?_
          refine z_seq (S' := zi _ :: _) rfl ?_
          refine z_iaddN F dX6_goes_225 ?_
          refine z_bipush F (nI 48) dX6_goes_226 rfl ?_
          refine z_isubN F (by omega) dX6_goes_228 ?_
          refine z_pmi F rfl 16 rfl (Nat.le_of_ble_eq_true rfl) rfl q1496 rfl rfl rfl dX6_goes_229 ?_
          refine z_weq (w' := [_, _]) rfl ?_
          refine go hl hq _ g11 g12 g14 ?_ (frm_upd gF (by decide))
          show nI _ = _
          rw [show q + 1 - b = (q - b) + 1 by omega, rvd, if_pos (by omega), show b + (q - b) = q by omega]
          exact congrArg nI (by omega)
  have at50 : ∀ (F1 : Nat → Int32), F1 11 = nI z → F1 12 = nI b → frm [12, 13, 14, 15, 16] F0 F1 → Z X [some (zr 1 0), none] [] [zH, zG F1 G0 A B] 0 0 50 := by
    intro F1 g11 g12 gF
    have hc256 : (if b < z then tb b else 0) < 256 := by
      split
      · exact htb b
      · omega
    refine z_aload_n F dX6_goes_50 rfl ?_
    refine z_aload_n F dX6_goes_51 rfl ?_
    refine z_mi F rfl 12 rfl (Nat.le_of_ble_eq_true rfl) rfl q1492 dX6_goes_52 ?_
    refine z_ieq (g12) ?_
    refine z_pmi F rfl 14 rfl (Nat.le_of_ble_eq_true rfl) rfl q1494 rfl rfl rfl dX6_goes_55 ?_
    refine z_weq (w' := [_, _]) rfl ?_
    refine z_aload_n F dX6_goes_58 rfl ?_
    refine z_lconst F 0 dX6_goes_59 rfl ?_
    refine z_pml F rfl 17 rfl (Nat.le_of_ble_eq_true rfl) rfl q1497 rfl rfl rfl dX6_goes_60 ?_
    refine z_weq (w' := [_, _]) rfl ?_
    refine z_aload_n F dX6_goes_63 rfl ?_
    refine z_iconst F (nI 0) dX6_goes_64 rfl ?_
    refine z_pmi F rfl 16 rfl (Nat.le_of_ble_eq_true rfl) rfl q1496 rfl rfl rfl dX6_goes_65 ?_
    refine z_weq (w' := [_, _]) rfl ?_
    refine z_aload_n F dX6_goes_68 rfl ?_
    refine z_aload_n F dX6_goes_69 rfl ?_
    refine z_mi F rfl 12 rfl (Nat.le_of_ble_eq_true rfl) rfl q1492 dX6_goes_70 ?_
    refine z_ieq (g12) ?_
    refine z_callV F (c_mbyteAt (upd (upd F1 14 (nI b)) 16 (nI 0)) (vp_updL G0 17 0) A B tb z b hz (by omega) g11 ht) 1 rfl (lw_V q1783 q1785 qs51 q117 q1786) (by decide +kernel) ⟨Nat.le_of_ble_eq_true rfl, Nat.le_of_ble_eq_true rfl⟩ ⟨by omega, by omega⟩ [0, 1] 2 ⟨rfl, rfl, rfl, ⟨Or.inl rfl, Or.inr rfl, trivial⟩⟩ (fun h => nomatch h) (Nat.le_of_ble_eq_true rfl) ⟨⟨Or.inr trivial, Or.inl rfl, trivial⟩, rfl, rfl, rfl, Nat.le_of_ble_eq_true rfl⟩ rfl zC6 (zat_G0 rfl) rfl dX6_goes_73 (fun r_73 w_73 hp => ?_) (fun _ _ h => h.elim)
    obtain ⟨rfl, rfl⟩ := hp
    refine z_weq (w' := [zH, zG _ _ _ _]) rfl ?_
    refine z_seq (S' := zi _ :: _) rfl ?_
    refine z_istore_n F dX6_goes_76 (Nat.le_of_ble_eq_true rfl) ?_
    refine z_leq (L' := [_, _]) rfl ?_
    refine z_aload_n F dX6_goes_77 rfl ?_
    refine z_mi F rfl 12 rfl (Nat.le_of_ble_eq_true rfl) rfl q1492 dX6_goes_78 ?_
    refine z_ieq (g12) ?_
    refine z_aload_n F dX6_goes_81 rfl ?_
    refine z_mi F rfl 11 rfl (Nat.le_of_ble_eq_true rfl) rfl q1491 dX6_goes_82 ?_
    refine z_ieq (g11) ?_
    refine z_icmp_ltN F (by omega) (by omega) (tgt := 96) dX6_goes_85 (by decide) (fun c_85 => ?_) (fun c_85 => ?_)
    · rw [if_pos c_85] at hc256
      rw [if_pos c_85]
      refine z_iload_n F dX6_goes_96 rfl ?_
      refine z_callS F (c_misL _ hc256) 1 rfl (lw_S q1787 q1788 q117 q1789) (by decide +kernel) ⟨Nat.le_of_ble_eq_true rfl, Nat.le_of_ble_eq_true rfl⟩ ⟨by omega, by omega⟩ [0] 2 ⟨rfl, rfl, rfl, ⟨Or.inl rfl, trivial⟩⟩ (fun h => nomatch h) (Nat.le_of_ble_eq_true rfl) ⟨⟨Or.inr trivial, Or.inr trivial, trivial⟩, rfl, rfl, rfl, Nat.le_of_ble_eq_true rfl⟩ rfl rfl dX6_goes_97 (fun r_97 w_97 hp => ?_) (fun _ _ h => h.elim)
      obtain ⟨rfl, rfl⟩ := hp
      refine z_weq (w' := [zH, zG _ _ _ _]) rfl ?_
      refine z_seq (S' := zi _ :: _) rfl ?_
      refine z_if_eqB F (tgt := 175) dX6_goes_100 (by decide) (fun c_100 => ?_) (fun c_100 => ?_)
      · refine z_iload_n F dX6_goes_175 rfl ?_
        refine z_callS F (c_misD _ hc256) 1 rfl (lw_S q1790 q1791 q117 q1792) (by decide +kernel) ⟨Nat.le_of_ble_eq_true rfl, Nat.le_of_ble_eq_true rfl⟩ ⟨by omega, by omega⟩ [0] 2 ⟨rfl, rfl, rfl, ⟨Or.inl rfl, trivial⟩⟩ (fun h => nomatch h) (Nat.le_of_ble_eq_true rfl) ⟨⟨Or.inr trivial, Or.inr trivial, trivial⟩, rfl, rfl, rfl, Nat.le_of_ble_eq_true rfl⟩ rfl rfl dX6_goes_176 (fun r_176 w_176 hp => ?_) (fun _ _ h => h.elim)
        obtain ⟨rfl, rfl⟩ := hp
        refine z_weq (w' := [zH, zG _ _ _ _]) rfl ?_
        refine z_seq (S' := zi _ :: _) rfl ?_
        refine z_if_eqB F (tgt := 253) dX6_goes_179 (by decide) (fun c_179 => ?_) (fun c_179 => ?_)
        · have e1 : en tb z b = b + 1 := by unfold en; rw [if_neg (by omega), if_neg (by rw [c_100]; decide), if_neg (by rw [c_179]; decide)]
          refine z_aload_n F dX6_goes_253 rfl ?_
          refine z_dup F dX6_goes_254 rfl ?_
          refine z_mi F rfl 12 rfl (Nat.le_of_ble_eq_true rfl) rfl q1492 dX6_goes_255 ?_
          refine z_ieq (g12) ?_
          refine z_iconst F (nI 1) dX6_goes_258 rfl ?_
          refine z_iaddN F dX6_goes_259 ?_
          refine z_pmi F rfl 12 rfl (Nat.le_of_ble_eq_true rfl) rfl q1492 rfl rfl rfl dX6_goes_260 ?_
          refine z_weq (w' := [_, _]) rfl ?_
          refine z_aload_n F dX6_goes_263 rfl ?_
          refine z_iload_n F dX6_goes_264 rfl ?_
          refine z_bipush F (nI 59) dX6_goes_265 rfl ?_
          refine z_icmp_neN F (by omega) (by omega) (tgt := 274) dX6_goes_267 (by decide) (fun c_267 => ?_) (fun c_267 => ?_)
          · refine z_iconst F (nI 4) dX6_goes_274 rfl ?_
            refine z_pmi F rfl 13 rfl (Nat.le_of_ble_eq_true rfl) rfl q1493 rfl rfl rfl dX6_goes_275 ?_
            refine z_weq (w' := [_, _]) rfl ?_
            have e2 : kd tb z b = 4 := by unfold kd; rw [if_neg (by omega), if_neg (by rw [c_100]; decide), if_neg (by rw [c_179]; decide), if_neg c_267]
            refine z_loc _ ?_ (fin _ _ g11 (by rw [e1]; rfl) (by rw [e2]; rfl) rfl (by rw [vv, if_neg (by omega)]; rfl) (fun w => by omega) (frm_upd (frm_upd (frm_upd (frm_upd gF (by decide)) (by decide)) (by decide)) (by decide)) (frmL2 frm.rf (by decide)))
            exact ⟨rfl, trivial⟩
          · refine z_iconst F (nI 3) dX6_goes_270 rfl ?_
            refine z_goto F (tgt := 275) dX6_goes_271 (by decide) ?_
            refine z_pmi F rfl 13 rfl (Nat.le_of_ble_eq_true rfl) rfl q1493 rfl rfl rfl dX6_goes_275 ?_
            refine z_weq (w' := [_, _]) rfl ?_
            have e2 : kd tb z b = 3 := by unfold kd; rw [if_neg (by omega), if_neg (by rw [c_100]; decide), if_neg (by rw [c_179]; decide), if_pos c_267]
            refine z_loc _ ?_ (fin _ _ g11 (by rw [e1]; rfl) (by rw [e2]; rfl) rfl (by rw [vv, if_neg (by omega)]; rfl) (fun w => by omega) (frm_upd (frm_upd (frm_upd (frm_upd gF (by decide)) (by decide)) (by decide)) (by decide)) (frmL2 frm.rf (by decide)))
            exact ⟨rfl, trivial⟩
        · have hen : rn (fun k => isD (tb k)) z b = en tb z b := by unfold en; rw [if_neg (by omega), if_neg (by rw [c_100]; decide), if_pos c_179]
          refine z_loc _ ?_ (dig_ c_100 c_179 c_85 (z + 1) b _ _ (by omega) (by omega) (by omega) hen (fun k hk => absurd hk (by omega)) g11 g12 rfl (by rw [Nat.sub_self]; rfl) (frm_upd (frm_upd gF (by decide)) (by decide)) (frmL2 frm.rf (by decide)))
          exact ⟨rfl, trivial⟩
      · have hen : rn (fun k => isL (tb k)) z b = en tb z b := by unfold en; rw [if_neg (by omega), if_pos c_100]
        refine z_loc _ ?_ (let_ c_100 c_85 (z + 1) b _ _ (by omega) (by omega) (by omega) hen (fun k hk => absurd hk (by omega)) g11 g12 rfl rfl (by rw [Nat.sub_self]; rfl) (frm_upd (frm_upd gF (by decide)) (by decide)) (frmL2 frm.rf (by decide)))
        exact ⟨rfl, trivial⟩
    · refine z_aload_n F dX6_goes_88 rfl ?_
      refine z_iconst F (nI 0) dX6_goes_89 rfl ?_
      refine z_pmi F rfl 13 rfl (Nat.le_of_ble_eq_true rfl) rfl q1493 rfl rfl rfl dX6_goes_90 ?_
      refine z_weq (w' := [_, _]) rfl ?_
      refine z_goto F (tgt := 278) dX6_goes_93 (by decide) ?_
      have e1 : en tb z b = b := by unfold en; rw [if_pos (by omega)]
      have e2 : kd tb z b = 0 := by unfold kd; rw [if_pos (by omega)]
      refine z_loc _ ?_ (fin _ _ g11 (by rw [e1]; exact g12) (by rw [e2]; rfl) rfl (by rw [vv, if_neg (by omega)]; rfl) (fun w => by omega) (frm_upd (frm_upd (frm_upd gF (by decide)) (by decide)) (by decide)) (frmL2 frm.rf (by decide)))
      exact ⟨rfl, trivial⟩
  have spc : ∀ (u q : Nat) (F1 : Nat → Int32), z - q < u → q ≤ z → rn (fun k => isS (tb k)) z q = b → F1 11 = nI z → F1 12 = nI q → frm [12, 13, 14, 15, 16] F0 F1 → Z X [some (zr 1 0), none] [] [zH, zG F1 G0 A B] 0 0 0 := by
    intro u
    induction u with
    | zero => intro q F1 hu; omega
    | succ u ih =>
      intro q F1 hu hqz hrn g11 g12 gF
      have stop_ : ¬ (q < z ∧ isS (tb q) = true) → q = b := fun w => by rw [← hrn]; exact (rn_stop (p := fun k => isS (tb k)) w).symm
      have nxt : q < z → isS (tb q) = true → Z X [some (zr 1 0), none] [] [zH, zG F1 G0 A B] 0 0 37 := by
        intro hq hs
        refine z_aload_n F dX6_goes_37 rfl ?_
        refine z_dup F dX6_goes_38 rfl ?_
        refine z_mi F rfl 12 rfl (Nat.le_of_ble_eq_true rfl) rfl q1492 dX6_goes_39 ?_
        refine z_ieq (g12) ?_
        refine z_iconst F (nI 1) dX6_goes_42 rfl ?_
        refine z_iaddN F dX6_goes_43 ?_
        refine z_pmi F rfl 12 rfl (Nat.le_of_ble_eq_true rfl) rfl q1492 rfl rfl rfl dX6_goes_44 ?_
        refine z_weq (w' := [_, _]) rfl ?_
        refine z_goto F (tgt := 0) dX6_goes_47 (by decide) ?_
        exact ih (q + 1) _ (by omega) (by omega) (by rw [← hrn]; exact (rn_step (p := fun k => isS (tb k)) hq hs).symm) g11 rfl (frm_upd gF (by decide))
      refine z_aload_n F dX6_goes_0 rfl ?_
      refine z_mi F rfl 12 rfl (Nat.le_of_ble_eq_true rfl) rfl q1492 dX6_goes_1 ?_
      refine z_ieq (g12) ?_
      refine z_aload_n F dX6_goes_4 rfl ?_
      refine z_mi F rfl 11 rfl (Nat.le_of_ble_eq_true rfl) rfl q1491 dX6_goes_5 ?_
      refine z_ieq (g11) ?_
      refine z_icmp_geN F (by omega) (by omega) (tgt := 50) dX6_goes_8 (by decide) (fun c_8 => ?_) (fun c_8 => ?_)
      · exact at50 F1 g11 (by rw [← stop_ (fun w => by omega)]; exact g12) gF
      · refine z_aload_n F dX6_goes_11 rfl ?_
        refine z_aload_n F dX6_goes_12 rfl ?_
        refine z_mi F rfl 12 rfl (Nat.le_of_ble_eq_true rfl) rfl q1492 dX6_goes_13 ?_
        refine z_ieq (g12) ?_
        refine z_callV F (c_mbyteAt F1 G0 A B tb z q hz (by omega) g11 ht) 1 rfl (lw_V q1783 q1785 qs51 q117 q1786) (by decide +kernel) ⟨Nat.le_of_ble_eq_true rfl, Nat.le_of_ble_eq_true rfl⟩ ⟨by omega, by omega⟩ [0, 1] 2 ⟨rfl, rfl, rfl, ⟨Or.inl rfl, Or.inr rfl, trivial⟩⟩ (fun h => nomatch h) (Nat.le_of_ble_eq_true rfl) ⟨⟨Or.inr trivial, Or.inl rfl, trivial⟩, rfl, rfl, rfl, Nat.le_of_ble_eq_true rfl⟩ rfl zC6 (zat_G0 rfl) rfl dX6_goes_16 (fun r_16 w_16 hp => ?_) (fun _ _ h => h.elim)
        obtain ⟨rfl, rfl⟩ := hp
        rw [if_pos (show q < z by omega)]
        refine z_weq (w' := [zH, zG _ _ _ _]) rfl ?_
        refine z_seq (S' := zi _ :: _) rfl ?_
        refine z_bipush F (nI 32) dX6_goes_19 rfl ?_
        refine z_icmp_eqN F (Nat.lt_trans (htb q) (by decide)) (by decide) (tgt := 37) dX6_goes_21 (by decide) (fun c_21 => ?_) (fun c_21 => ?_)
        · exact nxt (by omega) (by unfold isS; rw [c_21]; rfl)
        · refine z_aload_n F dX6_goes_24 rfl ?_
          refine z_aload_n F dX6_goes_25 rfl ?_
          refine z_mi F rfl 12 rfl (Nat.le_of_ble_eq_true rfl) rfl q1492 dX6_goes_26 ?_
          refine z_ieq (g12) ?_
          refine z_callV F (c_mbyteAt F1 G0 A B tb z q hz (by omega) g11 ht) 1 rfl (lw_V q1783 q1785 qs51 q117 q1786) (by decide +kernel) ⟨Nat.le_of_ble_eq_true rfl, Nat.le_of_ble_eq_true rfl⟩ ⟨by omega, by omega⟩ [0, 1] 2 ⟨rfl, rfl, rfl, ⟨Or.inl rfl, Or.inr rfl, trivial⟩⟩ (fun h => nomatch h) (Nat.le_of_ble_eq_true rfl) ⟨⟨Or.inr trivial, Or.inl rfl, trivial⟩, rfl, rfl, rfl, Nat.le_of_ble_eq_true rfl⟩ rfl zC6 (zat_G0 rfl) rfl dX6_goes_29 (fun r_29 w_29 hp => ?_) (fun _ _ h => h.elim)
          obtain ⟨rfl, rfl⟩ := hp
          rw [if_pos (show q < z by omega)]
          refine z_weq (w' := [zH, zG _ _ _ _]) rfl ?_
          refine z_seq (S' := zi _ :: _) rfl ?_
          refine z_bipush F (nI 10) dX6_goes_32 rfl ?_
          refine z_icmp_neN F (Nat.lt_trans (htb q) (by decide)) (by decide) (tgt := 50) dX6_goes_34 (by decide) (fun c_34 => ?_) (fun c_34 => ?_)
          · have hns : ¬ (q < z ∧ isS (tb q) = true) := fun w => by
              have := w.2
              unfold isS at this
              rw [decide_eq_false c_21, decide_eq_false c_34] at this
              cases this
            exact at50 F1 g11 (by rw [← stop_ hns]; exact g12) gF
          · exact nxt (by omega) (by unfold isS; rw [c_34]; rfl)
  exact spc (z + 1) p F0 (by omega) hp hb h11 h12 frm.rf
end C9yu
end
section
/-! read: the reference reads -/
section C9yv
theorem lcE {x y : Int64} : lg_cmp x y = 0 ↔ x = y := by
  constructor
  · intro h
    have h1 := lc_ge.mp (show 0 ≤ lg_cmp x y by rw [h]; decide)
    have h2 := lc_le.mp (show lg_cmp x y ≤ 0 by rw [h]; decide)
    exact Int64.le_antisymm (Int64.not_lt.mp h2) (Int64.not_lt.mp h1)
  · intro h
    subst h
    have h1 := lc_ge.mpr (show ¬ x < x from Int64.lt_irrefl)
    have h2 := lc_le.mpr (show ¬ x < x from Int64.lt_irrefl)
    exact Int32.le_antisymm h2 h1
theorem lN_ij {a b : Nat} (ha : a < 2 ^ 63) (hb : b < 2 ^ 63) : lN a = lN b ↔ a = b := by
  constructor
  · intro h
    have h1 := congrArg (fun v : Int64 => v.toBitVec.toNat) h
    simp only [lN_nat (show a < 2 ^ 64 by omega), lN_nat (show b < 2 ^ 64 by omega)] at h1
    exact h1
  · intro h; rw [h]
theorem c_mspell0 : zCtr yX6_spelled cX6_spelled 8 (some .long) 0 0 0 [zi (nI 114), zi (nI 111), zi (nI 119), zi (nI 0), zi (nI 0), zi (nI 0)] [zH] (fun r w => r = some (zl (lN 18935)) ∧ w = [zH]) zNx := by
  refine z_start (by decide) [some (zi (nI 114)), some (zi (nI 111)), some (zi (nI 119)), some (zi (nI 0)), some (zi (nI 0)), some (zi (nI 0)), none, none] rfl (fun _ => Nat.le_of_ble_eq_true rfl) (fun _ => rfl) (fun X F E hno hin => ?_)
  refine z_iload_n F dX6_spelled_0 rfl ?_
  refine z_bipush F (nI 96) dX6_spelled_1 rfl ?_
  refine z_isubN F (by omega) dX6_spelled_3 ?_
  refine z_i2l F dX6_spelled_4 ?_
  refine z_lstore F dX6_spelled_5 (Nat.le_of_ble_eq_true rfl) ?_
  refine z_leq (L' := [_, _, _, _, _, _, _, _]) rfl ?_
  refine z_iload_n F dX6_spelled_7 rfl ?_
  refine z_if_eqN F (by omega) (tgt := 23) dX6_spelled_8 (by decide) (fun c_8 => ?_) (fun c_8 => ?_)
  · exact absurd c_8 (by omega)
  · refine z_lload F dX6_spelled_11 rfl ?_
    refine z_iconst F (nI 5) dX6_spelled_13 rfl ?_
    refine z_lshl F dX6_spelled_14 ?_
    refine z_iload_n F dX6_spelled_15 rfl ?_
    refine z_bipush F (nI 96) dX6_spelled_16 rfl ?_
    refine z_isubN F (by omega) dX6_spelled_18 ?_
    refine z_i2l F dX6_spelled_19 ?_
    refine z_lor F dX6_spelled_20 ?_
    refine z_lstore F dX6_spelled_21 (Nat.le_of_ble_eq_true rfl) ?_
    refine z_leq (L' := [_, _, _, _, _, _, _, _]) rfl ?_
    refine z_iload_n F dX6_spelled_23 rfl ?_
    refine z_if_eqN F (by omega) (tgt := 39) dX6_spelled_24 (by decide) (fun c_24 => ?_) (fun c_24 => ?_)
    · exact absurd c_24 (by omega)
    · refine z_lload F dX6_spelled_27 rfl ?_
      refine z_iconst F (nI 5) dX6_spelled_29 rfl ?_
      refine z_lshl F dX6_spelled_30 ?_
      refine z_iload_n F dX6_spelled_31 rfl ?_
      refine z_bipush F (nI 96) dX6_spelled_32 rfl ?_
      refine z_isubN F (by omega) dX6_spelled_34 ?_
      refine z_i2l F dX6_spelled_35 ?_
      refine z_lor F dX6_spelled_36 ?_
      refine z_lstore F dX6_spelled_37 (Nat.le_of_ble_eq_true rfl) ?_
      refine z_leq (L' := [_, _, _, _, _, _, _, _]) rfl ?_
      refine z_iload_n F dX6_spelled_39 rfl ?_
      refine z_if_eqN F (by omega) (tgt := 55) dX6_spelled_40 (by decide) (fun c_40 => ?_) (fun c_40 => ?_)
      · refine z_iload F dX6_spelled_55 rfl ?_
        refine z_if_eqN F (by omega) (tgt := 73) dX6_spelled_57 (by decide) (fun c_57 => ?_) (fun c_57 => ?_)
        · refine z_iload F dX6_spelled_73 rfl ?_
          refine z_if_eqN F (by omega) (tgt := 91) dX6_spelled_75 (by decide) (fun c_75 => ?_) (fun c_75 => ?_)
          · refine z_lload F dX6_spelled_91 rfl ?_
            exact z_lret F E rfl dX6_spelled_93 (by omega) (by omega) (⟨congrArg (fun v : Int64 => (some (zl v) : Option zV)) (by decide +kernel), rfl⟩)
          · exact absurd c_75 (by omega)
        · exact absurd c_57 (by omega)
      · exact absurd c_40 (by omega)
theorem c_mspell1 : zCtr yX6_spelled cX6_spelled 8 (some .long) 0 0 0 [zi (nI 114), zi (nI 105), zi (nI 110), zi (nI 103), zi (nI 0), zi (nI 0)] [zH] (fun r w => r = some (zl (lN 599495)) ∧ w = [zH]) zNx := by
  refine z_start (by decide) [some (zi (nI 114)), some (zi (nI 105)), some (zi (nI 110)), some (zi (nI 103)), some (zi (nI 0)), some (zi (nI 0)), none, none] rfl (fun _ => Nat.le_of_ble_eq_true rfl) (fun _ => rfl) (fun X F E hno hin => ?_)
  refine z_iload_n F dX6_spelled_0 rfl ?_
  refine z_bipush F (nI 96) dX6_spelled_1 rfl ?_
  refine z_isubN F (by omega) dX6_spelled_3 ?_
  refine z_i2l F dX6_spelled_4 ?_
  refine z_lstore F dX6_spelled_5 (Nat.le_of_ble_eq_true rfl) ?_
  refine z_leq (L' := [_, _, _, _, _, _, _, _]) rfl ?_
  refine z_iload_n F dX6_spelled_7 rfl ?_
  refine z_if_eqN F (by omega) (tgt := 23) dX6_spelled_8 (by decide) (fun c_8 => ?_) (fun c_8 => ?_)
  · exact absurd c_8 (by omega)
  · refine z_lload F dX6_spelled_11 rfl ?_
    refine z_iconst F (nI 5) dX6_spelled_13 rfl ?_
    refine z_lshl F dX6_spelled_14 ?_
    refine z_iload_n F dX6_spelled_15 rfl ?_
    refine z_bipush F (nI 96) dX6_spelled_16 rfl ?_
    refine z_isubN F (by omega) dX6_spelled_18 ?_
    refine z_i2l F dX6_spelled_19 ?_
    refine z_lor F dX6_spelled_20 ?_
    refine z_lstore F dX6_spelled_21 (Nat.le_of_ble_eq_true rfl) ?_
    refine z_leq (L' := [_, _, _, _, _, _, _, _]) rfl ?_
    refine z_iload_n F dX6_spelled_23 rfl ?_
    refine z_if_eqN F (by omega) (tgt := 39) dX6_spelled_24 (by decide) (fun c_24 => ?_) (fun c_24 => ?_)
    · exact absurd c_24 (by omega)
    · refine z_lload F dX6_spelled_27 rfl ?_
      refine z_iconst F (nI 5) dX6_spelled_29 rfl ?_
      refine z_lshl F dX6_spelled_30 ?_
      refine z_iload_n F dX6_spelled_31 rfl ?_
      refine z_bipush F (nI 96) dX6_spelled_32 rfl ?_
      refine z_isubN F (by omega) dX6_spelled_34 ?_
      refine z_i2l F dX6_spelled_35 ?_
      refine z_lor F dX6_spelled_36 ?_
      refine z_lstore F dX6_spelled_37 (Nat.le_of_ble_eq_true rfl) ?_
      refine z_leq (L' := [_, _, _, _, _, _, _, _]) rfl ?_
      refine z_iload_n F dX6_spelled_39 rfl ?_
      refine z_if_eqN F (by omega) (tgt := 55) dX6_spelled_40 (by decide) (fun c_40 => ?_) (fun c_40 => ?_)
      · exact absurd c_40 (by omega)
      · refine z_lload F dX6_spelled_43 rfl ?_
        refine z_iconst F (nI 5) dX6_spelled_45 rfl ?_
        refine z_lshl F dX6_spelled_46 ?_
        refine z_iload_n F dX6_spelled_47 rfl ?_
        refine z_bipush F (nI 96) dX6_spelled_48 rfl ?_
        refine z_isubN F (by omega) dX6_spelled_50 ?_
        refine z_i2l F dX6_spelled_51 ?_
        refine z_lor F dX6_spelled_52 ?_
        refine z_lstore F dX6_spelled_53 (Nat.le_of_ble_eq_true rfl) ?_
        refine z_leq (L' := [_, _, _, _, _, _, _, _]) rfl ?_
        refine z_iload F dX6_spelled_55 rfl ?_
        refine z_if_eqN F (by omega) (tgt := 73) dX6_spelled_57 (by decide) (fun c_57 => ?_) (fun c_57 => ?_)
        · refine z_iload F dX6_spelled_73 rfl ?_
          refine z_if_eqN F (by omega) (tgt := 91) dX6_spelled_75 (by decide) (fun c_75 => ?_) (fun c_75 => ?_)
          · refine z_lload F dX6_spelled_91 rfl ?_
            exact z_lret F E rfl dX6_spelled_93 (by omega) (by omega) (⟨congrArg (fun v : Int64 => (some (zl v) : Option zV)) (by decide +kernel), rfl⟩)
          · exact absurd c_75 (by omega)
        · exact absurd c_57 (by omega)
theorem c_mspell2 : zCtr yX6_spelled cX6_spelled 8 (some .long) 0 0 0 [zi (nI 97), zi (nI 108), zi (nI 108), zi (nI 0), zi (nI 0), zi (nI 0)] [zH] (fun r w => r = some (zl (lN 1420)) ∧ w = [zH]) zNx := by
  refine z_start (by decide) [some (zi (nI 97)), some (zi (nI 108)), some (zi (nI 108)), some (zi (nI 0)), some (zi (nI 0)), some (zi (nI 0)), none, none] rfl (fun _ => Nat.le_of_ble_eq_true rfl) (fun _ => rfl) (fun X F E hno hin => ?_)
  refine z_iload_n F dX6_spelled_0 rfl ?_
  refine z_bipush F (nI 96) dX6_spelled_1 rfl ?_
  refine z_isubN F (by omega) dX6_spelled_3 ?_
  refine z_i2l F dX6_spelled_4 ?_
  refine z_lstore F dX6_spelled_5 (Nat.le_of_ble_eq_true rfl) ?_
  refine z_leq (L' := [_, _, _, _, _, _, _, _]) rfl ?_
  refine z_iload_n F dX6_spelled_7 rfl ?_
  refine z_if_eqN F (by omega) (tgt := 23) dX6_spelled_8 (by decide) (fun c_8 => ?_) (fun c_8 => ?_)
  · exact absurd c_8 (by omega)
  · refine z_lload F dX6_spelled_11 rfl ?_
    refine z_iconst F (nI 5) dX6_spelled_13 rfl ?_
    refine z_lshl F dX6_spelled_14 ?_
    refine z_iload_n F dX6_spelled_15 rfl ?_
    refine z_bipush F (nI 96) dX6_spelled_16 rfl ?_
    refine z_isubN F (by omega) dX6_spelled_18 ?_
    refine z_i2l F dX6_spelled_19 ?_
    refine z_lor F dX6_spelled_20 ?_
    refine z_lstore F dX6_spelled_21 (Nat.le_of_ble_eq_true rfl) ?_
    refine z_leq (L' := [_, _, _, _, _, _, _, _]) rfl ?_
    refine z_iload_n F dX6_spelled_23 rfl ?_
    refine z_if_eqN F (by omega) (tgt := 39) dX6_spelled_24 (by decide) (fun c_24 => ?_) (fun c_24 => ?_)
    · exact absurd c_24 (by omega)
    · refine z_lload F dX6_spelled_27 rfl ?_
      refine z_iconst F (nI 5) dX6_spelled_29 rfl ?_
      refine z_lshl F dX6_spelled_30 ?_
      refine z_iload_n F dX6_spelled_31 rfl ?_
      refine z_bipush F (nI 96) dX6_spelled_32 rfl ?_
      refine z_isubN F (by omega) dX6_spelled_34 ?_
      refine z_i2l F dX6_spelled_35 ?_
      refine z_lor F dX6_spelled_36 ?_
      refine z_lstore F dX6_spelled_37 (Nat.le_of_ble_eq_true rfl) ?_
      refine z_leq (L' := [_, _, _, _, _, _, _, _]) rfl ?_
      refine z_iload_n F dX6_spelled_39 rfl ?_
      refine z_if_eqN F (by omega) (tgt := 55) dX6_spelled_40 (by decide) (fun c_40 => ?_) (fun c_40 => ?_)
      · refine z_iload F dX6_spelled_55 rfl ?_
        refine z_if_eqN F (by omega) (tgt := 73) dX6_spelled_57 (by decide) (fun c_57 => ?_) (fun c_57 => ?_)
        · refine z_iload F dX6_spelled_73 rfl ?_
          refine z_if_eqN F (by omega) (tgt := 91) dX6_spelled_75 (by decide) (fun c_75 => ?_) (fun c_75 => ?_)
          · refine z_lload F dX6_spelled_91 rfl ?_
            exact z_lret F E rfl dX6_spelled_93 (by omega) (by omega) (⟨congrArg (fun v : Int64 => (some (zl v) : Option zV)) (by decide +kernel), rfl⟩)
          · exact absurd c_75 (by omega)
        · exact absurd c_57 (by omega)
      · exact absurd c_40 (by omega)
theorem c_mspell3 : zCtr yX6_spelled cX6_spelled 8 (some .long) 0 0 0 [zi (nI 115), zi (nI 116), zi (nI 97), zi (nI 114), zi (nI 0), zi (nI 0)] [zH] (fun r w => r = some (zl (lN 643122)) ∧ w = [zH]) zNx := by
  refine z_start (by decide) [some (zi (nI 115)), some (zi (nI 116)), some (zi (nI 97)), some (zi (nI 114)), some (zi (nI 0)), some (zi (nI 0)), none, none] rfl (fun _ => Nat.le_of_ble_eq_true rfl) (fun _ => rfl) (fun X F E hno hin => ?_)
  refine z_iload_n F dX6_spelled_0 rfl ?_
  refine z_bipush F (nI 96) dX6_spelled_1 rfl ?_
  refine z_isubN F (by omega) dX6_spelled_3 ?_
  refine z_i2l F dX6_spelled_4 ?_
  refine z_lstore F dX6_spelled_5 (Nat.le_of_ble_eq_true rfl) ?_
  refine z_leq (L' := [_, _, _, _, _, _, _, _]) rfl ?_
  refine z_iload_n F dX6_spelled_7 rfl ?_
  refine z_if_eqN F (by omega) (tgt := 23) dX6_spelled_8 (by decide) (fun c_8 => ?_) (fun c_8 => ?_)
  · exact absurd c_8 (by omega)
  · refine z_lload F dX6_spelled_11 rfl ?_
    refine z_iconst F (nI 5) dX6_spelled_13 rfl ?_
    refine z_lshl F dX6_spelled_14 ?_
    refine z_iload_n F dX6_spelled_15 rfl ?_
    refine z_bipush F (nI 96) dX6_spelled_16 rfl ?_
    refine z_isubN F (by omega) dX6_spelled_18 ?_
    refine z_i2l F dX6_spelled_19 ?_
    refine z_lor F dX6_spelled_20 ?_
    refine z_lstore F dX6_spelled_21 (Nat.le_of_ble_eq_true rfl) ?_
    refine z_leq (L' := [_, _, _, _, _, _, _, _]) rfl ?_
    refine z_iload_n F dX6_spelled_23 rfl ?_
    refine z_if_eqN F (by omega) (tgt := 39) dX6_spelled_24 (by decide) (fun c_24 => ?_) (fun c_24 => ?_)
    · exact absurd c_24 (by omega)
    · refine z_lload F dX6_spelled_27 rfl ?_
      refine z_iconst F (nI 5) dX6_spelled_29 rfl ?_
      refine z_lshl F dX6_spelled_30 ?_
      refine z_iload_n F dX6_spelled_31 rfl ?_
      refine z_bipush F (nI 96) dX6_spelled_32 rfl ?_
      refine z_isubN F (by omega) dX6_spelled_34 ?_
      refine z_i2l F dX6_spelled_35 ?_
      refine z_lor F dX6_spelled_36 ?_
      refine z_lstore F dX6_spelled_37 (Nat.le_of_ble_eq_true rfl) ?_
      refine z_leq (L' := [_, _, _, _, _, _, _, _]) rfl ?_
      refine z_iload_n F dX6_spelled_39 rfl ?_
      refine z_if_eqN F (by omega) (tgt := 55) dX6_spelled_40 (by decide) (fun c_40 => ?_) (fun c_40 => ?_)
      · exact absurd c_40 (by omega)
      · refine z_lload F dX6_spelled_43 rfl ?_
        refine z_iconst F (nI 5) dX6_spelled_45 rfl ?_
        refine z_lshl F dX6_spelled_46 ?_
        refine z_iload_n F dX6_spelled_47 rfl ?_
        refine z_bipush F (nI 96) dX6_spelled_48 rfl ?_
        refine z_isubN F (by omega) dX6_spelled_50 ?_
        refine z_i2l F dX6_spelled_51 ?_
        refine z_lor F dX6_spelled_52 ?_
        refine z_lstore F dX6_spelled_53 (Nat.le_of_ble_eq_true rfl) ?_
        refine z_leq (L' := [_, _, _, _, _, _, _, _]) rfl ?_
        refine z_iload F dX6_spelled_55 rfl ?_
        refine z_if_eqN F (by omega) (tgt := 73) dX6_spelled_57 (by decide) (fun c_57 => ?_) (fun c_57 => ?_)
        · refine z_iload F dX6_spelled_73 rfl ?_
          refine z_if_eqN F (by omega) (tgt := 91) dX6_spelled_75 (by decide) (fun c_75 => ?_) (fun c_75 => ?_)
          · refine z_lload F dX6_spelled_91 rfl ?_
            exact z_lret F E rfl dX6_spelled_93 (by omega) (by omega) (⟨congrArg (fun v : Int64 => (some (zl v) : Option zV)) (by decide +kernel), rfl⟩)
          · exact absurd c_75 (by omega)
        · exact absurd c_57 (by omega)
theorem c_mspell4 : zCtr yX6_spelled cX6_spelled 8 (some .long) 0 0 0 [zi (nI 111), zi (nI 102), zi (nI 102), zi (nI 0), zi (nI 0), zi (nI 0)] [zH] (fun r w => r = some (zl (lN 15558)) ∧ w = [zH]) zNx := by
  refine z_start (by decide) [some (zi (nI 111)), some (zi (nI 102)), some (zi (nI 102)), some (zi (nI 0)), some (zi (nI 0)), some (zi (nI 0)), none, none] rfl (fun _ => Nat.le_of_ble_eq_true rfl) (fun _ => rfl) (fun X F E hno hin => ?_)
  refine z_iload_n F dX6_spelled_0 rfl ?_
  refine z_bipush F (nI 96) dX6_spelled_1 rfl ?_
  refine z_isubN F (by omega) dX6_spelled_3 ?_
  refine z_i2l F dX6_spelled_4 ?_
  refine z_lstore F dX6_spelled_5 (Nat.le_of_ble_eq_true rfl) ?_
  refine z_leq (L' := [_, _, _, _, _, _, _, _]) rfl ?_
  refine z_iload_n F dX6_spelled_7 rfl ?_
  refine z_if_eqN F (by omega) (tgt := 23) dX6_spelled_8 (by decide) (fun c_8 => ?_) (fun c_8 => ?_)
  · exact absurd c_8 (by omega)
  · refine z_lload F dX6_spelled_11 rfl ?_
    refine z_iconst F (nI 5) dX6_spelled_13 rfl ?_
    refine z_lshl F dX6_spelled_14 ?_
    refine z_iload_n F dX6_spelled_15 rfl ?_
    refine z_bipush F (nI 96) dX6_spelled_16 rfl ?_
    refine z_isubN F (by omega) dX6_spelled_18 ?_
    refine z_i2l F dX6_spelled_19 ?_
    refine z_lor F dX6_spelled_20 ?_
    refine z_lstore F dX6_spelled_21 (Nat.le_of_ble_eq_true rfl) ?_
    refine z_leq (L' := [_, _, _, _, _, _, _, _]) rfl ?_
    refine z_iload_n F dX6_spelled_23 rfl ?_
    refine z_if_eqN F (by omega) (tgt := 39) dX6_spelled_24 (by decide) (fun c_24 => ?_) (fun c_24 => ?_)
    · exact absurd c_24 (by omega)
    · refine z_lload F dX6_spelled_27 rfl ?_
      refine z_iconst F (nI 5) dX6_spelled_29 rfl ?_
      refine z_lshl F dX6_spelled_30 ?_
      refine z_iload_n F dX6_spelled_31 rfl ?_
      refine z_bipush F (nI 96) dX6_spelled_32 rfl ?_
      refine z_isubN F (by omega) dX6_spelled_34 ?_
      refine z_i2l F dX6_spelled_35 ?_
      refine z_lor F dX6_spelled_36 ?_
      refine z_lstore F dX6_spelled_37 (Nat.le_of_ble_eq_true rfl) ?_
      refine z_leq (L' := [_, _, _, _, _, _, _, _]) rfl ?_
      refine z_iload_n F dX6_spelled_39 rfl ?_
      refine z_if_eqN F (by omega) (tgt := 55) dX6_spelled_40 (by decide) (fun c_40 => ?_) (fun c_40 => ?_)
      · refine z_iload F dX6_spelled_55 rfl ?_
        refine z_if_eqN F (by omega) (tgt := 73) dX6_spelled_57 (by decide) (fun c_57 => ?_) (fun c_57 => ?_)
        · refine z_iload F dX6_spelled_73 rfl ?_
          refine z_if_eqN F (by omega) (tgt := 91) dX6_spelled_75 (by decide) (fun c_75 => ?_) (fun c_75 => ?_)
          · refine z_lload F dX6_spelled_91 rfl ?_
            exact z_lret F E rfl dX6_spelled_93 (by omega) (by omega) (⟨congrArg (fun v : Int64 => (some (zl v) : Option zV)) (by decide +kernel), rfl⟩)
          · exact absurd c_75 (by omega)
        · exact absurd c_57 (by omega)
      · exact absurd c_40 (by omega)
theorem c_mspell5 : zCtr yX6_spelled cX6_spelled 8 (some .long) 0 0 0 [zi (nI 107), zi (nI 110), zi (nI 111), zi (nI 116), zi (nI 115), zi (nI 0)] [zH] (fun r w => r = some (zl (lN 12009107)) ∧ w = [zH]) zNx := by
  refine z_start (by decide) [some (zi (nI 107)), some (zi (nI 110)), some (zi (nI 111)), some (zi (nI 116)), some (zi (nI 115)), some (zi (nI 0)), none, none] rfl (fun _ => Nat.le_of_ble_eq_true rfl) (fun _ => rfl) (fun X F E hno hin => ?_)
  refine z_iload_n F dX6_spelled_0 rfl ?_
  refine z_bipush F (nI 96) dX6_spelled_1 rfl ?_
  refine z_isubN F (by omega) dX6_spelled_3 ?_
  refine z_i2l F dX6_spelled_4 ?_
  refine z_lstore F dX6_spelled_5 (Nat.le_of_ble_eq_true rfl) ?_
  refine z_leq (L' := [_, _, _, _, _, _, _, _]) rfl ?_
  refine z_iload_n F dX6_spelled_7 rfl ?_
  refine z_if_eqN F (by omega) (tgt := 23) dX6_spelled_8 (by decide) (fun c_8 => ?_) (fun c_8 => ?_)
  · exact absurd c_8 (by omega)
  · refine z_lload F dX6_spelled_11 rfl ?_
    refine z_iconst F (nI 5) dX6_spelled_13 rfl ?_
    refine z_lshl F dX6_spelled_14 ?_
    refine z_iload_n F dX6_spelled_15 rfl ?_
    refine z_bipush F (nI 96) dX6_spelled_16 rfl ?_
    refine z_isubN F (by omega) dX6_spelled_18 ?_
    refine z_i2l F dX6_spelled_19 ?_
    refine z_lor F dX6_spelled_20 ?_
    refine z_lstore F dX6_spelled_21 (Nat.le_of_ble_eq_true rfl) ?_
    refine z_leq (L' := [_, _, _, _, _, _, _, _]) rfl ?_
    refine z_iload_n F dX6_spelled_23 rfl ?_
    refine z_if_eqN F (by omega) (tgt := 39) dX6_spelled_24 (by decide) (fun c_24 => ?_) (fun c_24 => ?_)
    · exact absurd c_24 (by omega)
    · refine z_lload F dX6_spelled_27 rfl ?_
      refine z_iconst F (nI 5) dX6_spelled_29 rfl ?_
      refine z_lshl F dX6_spelled_30 ?_
      refine z_iload_n F dX6_spelled_31 rfl ?_
      refine z_bipush F (nI 96) dX6_spelled_32 rfl ?_
      refine z_isubN F (by omega) dX6_spelled_34 ?_
      refine z_i2l F dX6_spelled_35 ?_
      refine z_lor F dX6_spelled_36 ?_
      refine z_lstore F dX6_spelled_37 (Nat.le_of_ble_eq_true rfl) ?_
      refine z_leq (L' := [_, _, _, _, _, _, _, _]) rfl ?_
      refine z_iload_n F dX6_spelled_39 rfl ?_
      refine z_if_eqN F (by omega) (tgt := 55) dX6_spelled_40 (by decide) (fun c_40 => ?_) (fun c_40 => ?_)
      · exact absurd c_40 (by omega)
      · refine z_lload F dX6_spelled_43 rfl ?_
        refine z_iconst F (nI 5) dX6_spelled_45 rfl ?_
        refine z_lshl F dX6_spelled_46 ?_
        refine z_iload_n F dX6_spelled_47 rfl ?_
        refine z_bipush F (nI 96) dX6_spelled_48 rfl ?_
        refine z_isubN F (by omega) dX6_spelled_50 ?_
        refine z_i2l F dX6_spelled_51 ?_
        refine z_lor F dX6_spelled_52 ?_
        refine z_lstore F dX6_spelled_53 (Nat.le_of_ble_eq_true rfl) ?_
        refine z_leq (L' := [_, _, _, _, _, _, _, _]) rfl ?_
        refine z_iload F dX6_spelled_55 rfl ?_
        refine z_if_eqN F (by omega) (tgt := 73) dX6_spelled_57 (by decide) (fun c_57 => ?_) (fun c_57 => ?_)
        · exact absurd c_57 (by omega)
        · refine z_lload F dX6_spelled_60 rfl ?_
          refine z_iconst F (nI 5) dX6_spelled_62 rfl ?_
          refine z_lshl F dX6_spelled_63 ?_
          refine z_iload F dX6_spelled_64 rfl ?_
          refine z_bipush F (nI 96) dX6_spelled_66 rfl ?_
          refine z_isubN F (by omega) dX6_spelled_68 ?_
          refine z_i2l F dX6_spelled_69 ?_
          refine z_lor F dX6_spelled_70 ?_
          refine z_lstore F dX6_spelled_71 (Nat.le_of_ble_eq_true rfl) ?_
          refine z_leq (L' := [_, _, _, _, _, _, _, _]) rfl ?_
          refine z_iload F dX6_spelled_73 rfl ?_
          refine z_if_eqN F (by omega) (tgt := 91) dX6_spelled_75 (by decide) (fun c_75 => ?_) (fun c_75 => ?_)
          · refine z_lload F dX6_spelled_91 rfl ?_
            exact z_lret F E rfl dX6_spelled_93 (by omega) (by omega) (⟨congrArg (fun v : Int64 => (some (zl v) : Option zV)) (by decide +kernel), rfl⟩)
          · exact absurd c_75 (by omega)
theorem c_mspell6 : zCtr yX6_spelled cX6_spelled 8 (some .long) 0 0 0 [zi (nI 100), zi (nI 101), zi (nI 103), zi (nI 114), zi (nI 101), zi (nI 101)] [zH] (fun r w => r = some (zl (lN 139708581)) ∧ w = [zH]) zNx := by
  refine z_start (by decide) [some (zi (nI 100)), some (zi (nI 101)), some (zi (nI 103)), some (zi (nI 114)), some (zi (nI 101)), some (zi (nI 101)), none, none] rfl (fun _ => Nat.le_of_ble_eq_true rfl) (fun _ => rfl) (fun X F E hno hin => ?_)
  refine z_iload_n F dX6_spelled_0 rfl ?_
  refine z_bipush F (nI 96) dX6_spelled_1 rfl ?_
  refine z_isubN F (by omega) dX6_spelled_3 ?_
  refine z_i2l F dX6_spelled_4 ?_
  refine z_lstore F dX6_spelled_5 (Nat.le_of_ble_eq_true rfl) ?_
  refine z_leq (L' := [_, _, _, _, _, _, _, _]) rfl ?_
  refine z_iload_n F dX6_spelled_7 rfl ?_
  refine z_if_eqN F (by omega) (tgt := 23) dX6_spelled_8 (by decide) (fun c_8 => ?_) (fun c_8 => ?_)
  · exact absurd c_8 (by omega)
  · refine z_lload F dX6_spelled_11 rfl ?_
    refine z_iconst F (nI 5) dX6_spelled_13 rfl ?_
    refine z_lshl F dX6_spelled_14 ?_
    refine z_iload_n F dX6_spelled_15 rfl ?_
    refine z_bipush F (nI 96) dX6_spelled_16 rfl ?_
    refine z_isubN F (by omega) dX6_spelled_18 ?_
    refine z_i2l F dX6_spelled_19 ?_
    refine z_lor F dX6_spelled_20 ?_
    refine z_lstore F dX6_spelled_21 (Nat.le_of_ble_eq_true rfl) ?_
    refine z_leq (L' := [_, _, _, _, _, _, _, _]) rfl ?_
    refine z_iload_n F dX6_spelled_23 rfl ?_
    refine z_if_eqN F (by omega) (tgt := 39) dX6_spelled_24 (by decide) (fun c_24 => ?_) (fun c_24 => ?_)
    · exact absurd c_24 (by omega)
    · refine z_lload F dX6_spelled_27 rfl ?_
      refine z_iconst F (nI 5) dX6_spelled_29 rfl ?_
      refine z_lshl F dX6_spelled_30 ?_
      refine z_iload_n F dX6_spelled_31 rfl ?_
      refine z_bipush F (nI 96) dX6_spelled_32 rfl ?_
      refine z_isubN F (by omega) dX6_spelled_34 ?_
      refine z_i2l F dX6_spelled_35 ?_
      refine z_lor F dX6_spelled_36 ?_
      refine z_lstore F dX6_spelled_37 (Nat.le_of_ble_eq_true rfl) ?_
      refine z_leq (L' := [_, _, _, _, _, _, _, _]) rfl ?_
      refine z_iload_n F dX6_spelled_39 rfl ?_
      refine z_if_eqN F (by omega) (tgt := 55) dX6_spelled_40 (by decide) (fun c_40 => ?_) (fun c_40 => ?_)
      · exact absurd c_40 (by omega)
      · refine z_lload F dX6_spelled_43 rfl ?_
        refine z_iconst F (nI 5) dX6_spelled_45 rfl ?_
        refine z_lshl F dX6_spelled_46 ?_
        refine z_iload_n F dX6_spelled_47 rfl ?_
        refine z_bipush F (nI 96) dX6_spelled_48 rfl ?_
        refine z_isubN F (by omega) dX6_spelled_50 ?_
        refine z_i2l F dX6_spelled_51 ?_
        refine z_lor F dX6_spelled_52 ?_
        refine z_lstore F dX6_spelled_53 (Nat.le_of_ble_eq_true rfl) ?_
        refine z_leq (L' := [_, _, _, _, _, _, _, _]) rfl ?_
        refine z_iload F dX6_spelled_55 rfl ?_
        refine z_if_eqN F (by omega) (tgt := 73) dX6_spelled_57 (by decide) (fun c_57 => ?_) (fun c_57 => ?_)
        · exact absurd c_57 (by omega)
        · refine z_lload F dX6_spelled_60 rfl ?_
          refine z_iconst F (nI 5) dX6_spelled_62 rfl ?_
          refine z_lshl F dX6_spelled_63 ?_
          refine z_iload F dX6_spelled_64 rfl ?_
          refine z_bipush F (nI 96) dX6_spelled_66 rfl ?_
          refine z_isubN F (by omega) dX6_spelled_68 ?_
          refine z_i2l F dX6_spelled_69 ?_
          refine z_lor F dX6_spelled_70 ?_
          refine z_lstore F dX6_spelled_71 (Nat.le_of_ble_eq_true rfl) ?_
          refine z_leq (L' := [_, _, _, _, _, _, _, _]) rfl ?_
          refine z_iload F dX6_spelled_73 rfl ?_
          refine z_if_eqN F (by omega) (tgt := 91) dX6_spelled_75 (by decide) (fun c_75 => ?_) (fun c_75 => ?_)
          · exact absurd c_75 (by omega)
          · refine z_lload F dX6_spelled_78 rfl ?_
            refine z_iconst F (nI 5) dX6_spelled_80 rfl ?_
            refine z_lshl F dX6_spelled_81 ?_
            refine z_iload F dX6_spelled_82 rfl ?_
            refine z_bipush F (nI 96) dX6_spelled_84 rfl ?_
            refine z_isubN F (by omega) dX6_spelled_86 ?_
            refine z_i2l F dX6_spelled_87 ?_
            refine z_lor F dX6_spelled_88 ?_
            refine z_lstore F dX6_spelled_89 (Nat.le_of_ble_eq_true rfl) ?_
            refine z_leq (L' := [_, _, _, _, _, _, _, _]) rfl ?_
            refine z_lload F dX6_spelled_91 rfl ?_
            exact z_lret F E rfl dX6_spelled_93 (by omega) (by omega) (⟨congrArg (fun v : Int64 => (some (zl v) : Option zV)) (by decide +kernel), rfl⟩)
noncomputable def kwR (tb : Nat → Nat) (z b : Nat) : Int32 := dI (kwI tb z b)
theorem c_mknown (F0 : Nat → Int32) (G : Nat → Int64) (A : Nat → Nat → Int32) (B : Nat → Nat → Int64) (tb : Nat → Nat) (z b : Nat) (hz : z ≤ 400) (hb : b ≤ z) (hT : Tk tb z F0 G b) : zCtr yX6_knownWord cX6_knownWord 1 (some .int) 1 0 0 [zr 1 0] [zH, zG F0 G A B] (fun r w => r = some (zi (kwR tb z b)) ∧ w = [zH, zG F0 G A B]) zNx := by
  refine z_start (by decide) [some (zr 1 0)] rfl (fun _ => Nat.le_of_ble_eq_true rfl) (fun _ => rfl) (fun X F E hno hin => ?_)
  obtain ⟨t11, t12, t13, t14, t15, t16, t17⟩ := hT
  have hkd := kd_lt tb z b
  have he := (en_ge tb z b).2 hb
  have hno : ¬ (kd tb z b = 1 ∧ en tb z b - b ≤ 6) → kwR tb z b = -1 := fun q => by
    have : kwI tb z b = none := by
      cases hk : kwI tb z b with
      | none => rfl
      | some i =>
        obtain ⟨a, w⟩ := kwI_some.mp hk
        have := (isW_iff a).mp w
        exact absurd ⟨this.1, this.2.1⟩ q
    unfold kwR; rw [this]; rfl
  have hyes : kd tb z b = 1 → en tb z b - b ≤ 6 → ∀ i, i < 7 → (lg_cmp (G 17) (lN (kwC i)) = 0 ↔ isW tb z b i) := fun q1 q2 i hi => by
    have hw := wcd_lt tb b (en tb z b - b) (tk_L q1).2.2.2
    have h5 : 32 ^ min (en tb z b - b) 7 ≤ 32 ^ 7 := Nat.pow_le_pow_right (by decide) (by omega)
    have hc : kwC i < 2 ^ 40 := (by decide : ∀ i, i < 7 → kwC i < 2 ^ 40) i hi
    rw [lcE, t17 q1, lN_ij (by omega) (by omega), isW_iff hi]
    exact ⟨fun z => ⟨q1, q2, z⟩, fun z => z.2.2⟩
  have hk : ∀ i, i < 7 → isW tb z b i → kwR tb z b = nI i := fun i hi w => by
    unfold kwR; rw [kwI_some.mpr ⟨hi, w⟩]; rfl
  refine z_aload_n F dX6_knownWord_0 rfl ?_
  refine z_mi F rfl 13 rfl (Nat.le_of_ble_eq_true rfl) rfl q1493 dX6_knownWord_1 ?_
  refine z_ieq (t13) ?_
  refine z_iconst F (nI 1) dX6_knownWord_4 rfl ?_
  refine z_icmp_neN F (by omega) (by omega) (tgt := 17) dX6_knownWord_5 (by decide) (fun c_5 => ?_) (fun c_5 => ?_)
  · refine z_iconst F (-1) dX6_knownWord_17 rfl ?_
    exact z_iret F E rfl dX6_knownWord_18 (by omega) (by omega) (⟨by rw [hno (fun q => by omega)], rfl⟩)
  · refine z_aload_n F dX6_knownWord_8 rfl ?_
    refine z_mi F rfl 15 rfl (Nat.le_of_ble_eq_true rfl) rfl q1495 dX6_knownWord_9 ?_
    refine z_ieq (t15) ?_
    refine z_bipush F (nI 6) dX6_knownWord_12 rfl ?_
    refine z_icmp_leN F (by omega) (by omega) (tgt := 19) dX6_knownWord_14 (by decide) (fun c_14 => ?_) (fun c_14 => ?_)
    · have hy := hyes (by omega) c_14
      refine z_aload_n F dX6_knownWord_19 rfl ?_
      refine z_ml F rfl 17 rfl (Nat.le_of_ble_eq_true rfl) rfl q1497 dX6_knownWord_20 ?_
      refine z_bipush F (nI 114) dX6_knownWord_23 rfl ?_
      refine z_bipush F (nI 111) dX6_knownWord_25 rfl ?_
      refine z_bipush F (nI 119) dX6_knownWord_27 rfl ?_
      refine z_iconst F (nI 0) dX6_knownWord_29 rfl ?_
      refine z_iconst F (nI 0) dX6_knownWord_30 rfl ?_
      refine z_iconst F (nI 0) dX6_knownWord_31 rfl ?_
      refine z_callS F (c_mspell0) 6 rfl (lw_S q1797 q1798 q117 q1799) (by decide +kernel) ⟨Nat.le_of_ble_eq_true rfl, Nat.le_of_ble_eq_true rfl⟩ ⟨by omega, by omega⟩ [0] 2 ⟨rfl, rfl, rfl, ⟨Or.inl rfl, trivial⟩⟩ (fun h => nomatch h) (Nat.le_of_ble_eq_true rfl) ⟨⟨Or.inr trivial, Or.inr trivial, trivial⟩, rfl, rfl, rfl, Nat.le_of_ble_eq_true rfl⟩ rfl rfl dX6_knownWord_32 (fun r_32 w_32 hp => ?_) (fun _ _ h => h.elim)
      obtain ⟨rfl, rfl⟩ := hp
      refine z_weq (w' := [zH, zG _ _ _ _]) rfl ?_
      refine z_seq (S' := zl _ :: _) rfl ?_
      refine z_lcmp F dX6_knownWord_35 ?_
      refine z_if_ne F (tgt := 41) dX6_knownWord_36 (by decide) (fun c_36 => ?_) (fun c_36 => ?_)
      · refine z_aload_n F dX6_knownWord_41 rfl ?_
        refine z_ml F rfl 17 rfl (Nat.le_of_ble_eq_true rfl) rfl q1497 dX6_knownWord_42 ?_
        refine z_bipush F (nI 114) dX6_knownWord_45 rfl ?_
        refine z_bipush F (nI 105) dX6_knownWord_47 rfl ?_
        refine z_bipush F (nI 110) dX6_knownWord_49 rfl ?_
        refine z_bipush F (nI 103) dX6_knownWord_51 rfl ?_
        refine z_iconst F (nI 0) dX6_knownWord_53 rfl ?_
        refine z_iconst F (nI 0) dX6_knownWord_54 rfl ?_
        refine z_callS F (c_mspell1) 6 rfl (lw_S q1797 q1798 q117 q1799) (by decide +kernel) ⟨Nat.le_of_ble_eq_true rfl, Nat.le_of_ble_eq_true rfl⟩ ⟨by omega, by omega⟩ [0] 2 ⟨rfl, rfl, rfl, ⟨Or.inl rfl, trivial⟩⟩ (fun h => nomatch h) (Nat.le_of_ble_eq_true rfl) ⟨⟨Or.inr trivial, Or.inr trivial, trivial⟩, rfl, rfl, rfl, Nat.le_of_ble_eq_true rfl⟩ rfl rfl dX6_knownWord_55 (fun r_55 w_55 hp => ?_) (fun _ _ h => h.elim)
        obtain ⟨rfl, rfl⟩ := hp
        refine z_weq (w' := [zH, zG _ _ _ _]) rfl ?_
        refine z_seq (S' := zl _ :: _) rfl ?_
        refine z_lcmp F dX6_knownWord_58 ?_
        refine z_if_ne F (tgt := 64) dX6_knownWord_59 (by decide) (fun c_59 => ?_) (fun c_59 => ?_)
        · refine z_aload_n F dX6_knownWord_64 rfl ?_
          refine z_ml F rfl 17 rfl (Nat.le_of_ble_eq_true rfl) rfl q1497 dX6_knownWord_65 ?_
          refine z_bipush F (nI 97) dX6_knownWord_68 rfl ?_
          refine z_bipush F (nI 108) dX6_knownWord_70 rfl ?_
          refine z_bipush F (nI 108) dX6_knownWord_72 rfl ?_
          refine z_iconst F (nI 0) dX6_knownWord_74 rfl ?_
          refine z_iconst F (nI 0) dX6_knownWord_75 rfl ?_
          refine z_iconst F (nI 0) dX6_knownWord_76 rfl ?_
          refine z_callS F (c_mspell2) 6 rfl (lw_S q1797 q1798 q117 q1799) (by decide +kernel) ⟨Nat.le_of_ble_eq_true rfl, Nat.le_of_ble_eq_true rfl⟩ ⟨by omega, by omega⟩ [0] 2 ⟨rfl, rfl, rfl, ⟨Or.inl rfl, trivial⟩⟩ (fun h => nomatch h) (Nat.le_of_ble_eq_true rfl) ⟨⟨Or.inr trivial, Or.inr trivial, trivial⟩, rfl, rfl, rfl, Nat.le_of_ble_eq_true rfl⟩ rfl rfl dX6_knownWord_77 (fun r_77 w_77 hp => ?_) (fun _ _ h => h.elim)
          obtain ⟨rfl, rfl⟩ := hp
          refine z_weq (w' := [zH, zG _ _ _ _]) rfl ?_
          refine z_seq (S' := zl _ :: _) rfl ?_
          refine z_lcmp F dX6_knownWord_80 ?_
          refine z_if_ne F (tgt := 86) dX6_knownWord_81 (by decide) (fun c_81 => ?_) (fun c_81 => ?_)
          · refine z_aload_n F dX6_knownWord_86 rfl ?_
            refine z_ml F rfl 17 rfl (Nat.le_of_ble_eq_true rfl) rfl q1497 dX6_knownWord_87 ?_
            refine z_bipush F (nI 115) dX6_knownWord_90 rfl ?_
            refine z_bipush F (nI 116) dX6_knownWord_92 rfl ?_
            refine z_bipush F (nI 97) dX6_knownWord_94 rfl ?_
            refine z_bipush F (nI 114) dX6_knownWord_96 rfl ?_
            refine z_iconst F (nI 0) dX6_knownWord_98 rfl ?_
            refine z_iconst F (nI 0) dX6_knownWord_99 rfl ?_
            refine z_callS F (c_mspell3) 6 rfl (lw_S q1797 q1798 q117 q1799) (by decide +kernel) ⟨Nat.le_of_ble_eq_true rfl, Nat.le_of_ble_eq_true rfl⟩ ⟨by omega, by omega⟩ [0] 2 ⟨rfl, rfl, rfl, ⟨Or.inl rfl, trivial⟩⟩ (fun h => nomatch h) (Nat.le_of_ble_eq_true rfl) ⟨⟨Or.inr trivial, Or.inr trivial, trivial⟩, rfl, rfl, rfl, Nat.le_of_ble_eq_true rfl⟩ rfl rfl dX6_knownWord_100 (fun r_100 w_100 hp => ?_) (fun _ _ h => h.elim)
            obtain ⟨rfl, rfl⟩ := hp
            refine z_weq (w' := [zH, zG _ _ _ _]) rfl ?_
            refine z_seq (S' := zl _ :: _) rfl ?_
            refine z_lcmp F dX6_knownWord_103 ?_
            refine z_if_ne F (tgt := 109) dX6_knownWord_104 (by decide) (fun c_104 => ?_) (fun c_104 => ?_)
            · refine z_aload_n F dX6_knownWord_109 rfl ?_
              refine z_ml F rfl 17 rfl (Nat.le_of_ble_eq_true rfl) rfl q1497 dX6_knownWord_110 ?_
              refine z_bipush F (nI 111) dX6_knownWord_113 rfl ?_
              refine z_bipush F (nI 102) dX6_knownWord_115 rfl ?_
              refine z_bipush F (nI 102) dX6_knownWord_117 rfl ?_
              refine z_iconst F (nI 0) dX6_knownWord_119 rfl ?_
              refine z_iconst F (nI 0) dX6_knownWord_120 rfl ?_
              refine z_iconst F (nI 0) dX6_knownWord_121 rfl ?_
              refine z_callS F (c_mspell4) 6 rfl (lw_S q1797 q1798 q117 q1799) (by decide +kernel) ⟨Nat.le_of_ble_eq_true rfl, Nat.le_of_ble_eq_true rfl⟩ ⟨by omega, by omega⟩ [0] 2 ⟨rfl, rfl, rfl, ⟨Or.inl rfl, trivial⟩⟩ (fun h => nomatch h) (Nat.le_of_ble_eq_true rfl) ⟨⟨Or.inr trivial, Or.inr trivial, trivial⟩, rfl, rfl, rfl, Nat.le_of_ble_eq_true rfl⟩ rfl rfl dX6_knownWord_122 (fun r_122 w_122 hp => ?_) (fun _ _ h => h.elim)
              obtain ⟨rfl, rfl⟩ := hp
              refine z_weq (w' := [zH, zG _ _ _ _]) rfl ?_
              refine z_seq (S' := zl _ :: _) rfl ?_
              refine z_lcmp F dX6_knownWord_125 ?_
              refine z_if_ne F (tgt := 131) dX6_knownWord_126 (by decide) (fun c_126 => ?_) (fun c_126 => ?_)
              · refine z_aload_n F dX6_knownWord_131 rfl ?_
                refine z_ml F rfl 17 rfl (Nat.le_of_ble_eq_true rfl) rfl q1497 dX6_knownWord_132 ?_
                refine z_bipush F (nI 107) dX6_knownWord_135 rfl ?_
                refine z_bipush F (nI 110) dX6_knownWord_137 rfl ?_
                refine z_bipush F (nI 111) dX6_knownWord_139 rfl ?_
                refine z_bipush F (nI 116) dX6_knownWord_141 rfl ?_
                refine z_bipush F (nI 115) dX6_knownWord_143 rfl ?_
                refine z_iconst F (nI 0) dX6_knownWord_145 rfl ?_
                refine z_callS F (c_mspell5) 6 rfl (lw_S q1797 q1798 q117 q1799) (by decide +kernel) ⟨Nat.le_of_ble_eq_true rfl, Nat.le_of_ble_eq_true rfl⟩ ⟨by omega, by omega⟩ [0] 2 ⟨rfl, rfl, rfl, ⟨Or.inl rfl, trivial⟩⟩ (fun h => nomatch h) (Nat.le_of_ble_eq_true rfl) ⟨⟨Or.inr trivial, Or.inr trivial, trivial⟩, rfl, rfl, rfl, Nat.le_of_ble_eq_true rfl⟩ rfl rfl dX6_knownWord_146 (fun r_146 w_146 hp => ?_) (fun _ _ h => h.elim)
                obtain ⟨rfl, rfl⟩ := hp
                refine z_weq (w' := [zH, zG _ _ _ _]) rfl ?_
                refine z_seq (S' := zl _ :: _) rfl ?_
                refine z_lcmp F dX6_knownWord_149 ?_
                refine z_if_ne F (tgt := 155) dX6_knownWord_150 (by decide) (fun c_150 => ?_) (fun c_150 => ?_)
                · refine z_aload_n F dX6_knownWord_155 rfl ?_
                  refine z_ml F rfl 17 rfl (Nat.le_of_ble_eq_true rfl) rfl q1497 dX6_knownWord_156 ?_
                  refine z_bipush F (nI 100) dX6_knownWord_159 rfl ?_
                  refine z_bipush F (nI 101) dX6_knownWord_161 rfl ?_
                  refine z_bipush F (nI 103) dX6_knownWord_163 rfl ?_
                  refine z_bipush F (nI 114) dX6_knownWord_165 rfl ?_
                  refine z_bipush F (nI 101) dX6_knownWord_167 rfl ?_
                  refine z_bipush F (nI 101) dX6_knownWord_169 rfl ?_
                  refine z_callS F (c_mspell6) 6 rfl (lw_S q1797 q1798 q117 q1799) (by decide +kernel) ⟨Nat.le_of_ble_eq_true rfl, Nat.le_of_ble_eq_true rfl⟩ ⟨by omega, by omega⟩ [0] 2 ⟨rfl, rfl, rfl, ⟨Or.inl rfl, trivial⟩⟩ (fun h => nomatch h) (Nat.le_of_ble_eq_true rfl) ⟨⟨Or.inr trivial, Or.inr trivial, trivial⟩, rfl, rfl, rfl, Nat.le_of_ble_eq_true rfl⟩ rfl rfl dX6_knownWord_171 (fun r_171 w_171 hp => ?_) (fun _ _ h => h.elim)
                  obtain ⟨rfl, rfl⟩ := hp
                  refine z_weq (w' := [zH, zG _ _ _ _]) rfl ?_
                  refine z_seq (S' := zl _ :: _) rfl ?_
                  refine z_lcmp F dX6_knownWord_174 ?_
                  refine z_if_ne F (tgt := 183) dX6_knownWord_175 (by decide) (fun c_175 => ?_) (fun c_175 => ?_)
                  · refine z_iconst F (-1) dX6_knownWord_183 rfl ?_
                    exact z_iret F E rfl dX6_knownWord_184 (by omega) (by omega) (⟨by
  have hn : kwI tb z b = none := by
    cases hq : kwI tb z b with
    | none => rfl
    | some i =>
      obtain ⟨a, w⟩ := kwI_some.mp hq
      have hz := (hy i a).mpr w
      exfalso
      rcases (show i = 0 ∨ i = 1 ∨ i = 2 ∨ i = 3 ∨ i = 4 ∨ i = 5 ∨ i = 6 by omega) with e | e | e | e | e | e | e <;> subst e
      · exact c_36 hz
      · exact c_59 hz
      · exact c_81 hz
      · exact c_104 hz
      · exact c_126 hz
      · exact c_150 hz
      · exact c_175 hz
  unfold kwR; rw [hn]; rfl, rfl⟩)
                  · refine z_bipush F (nI 6) dX6_knownWord_178 rfl ?_
                    refine z_goto F (tgt := 184) dX6_knownWord_180 (by decide) ?_
                    exact z_iret F E rfl dX6_knownWord_184 (by omega) (by omega) (⟨by rw [hk 6 (by omega) ((hy 6 (by omega)).mp c_175)] <;> rfl, rfl⟩)
                · refine z_iconst F (nI 5) dX6_knownWord_153 rfl ?_
                  exact z_iret F E rfl dX6_knownWord_154 (by omega) (by omega) (⟨by rw [hk 5 (by omega) ((hy 5 (by omega)).mp c_150)] <;> rfl, rfl⟩)
              · refine z_iconst F (nI 4) dX6_knownWord_129 rfl ?_
                exact z_iret F E rfl dX6_knownWord_130 (by omega) (by omega) (⟨by rw [hk 4 (by omega) ((hy 4 (by omega)).mp c_126)] <;> rfl, rfl⟩)
            · refine z_iconst F (nI 3) dX6_knownWord_107 rfl ?_
              exact z_iret F E rfl dX6_knownWord_108 (by omega) (by omega) (⟨by rw [hk 3 (by omega) ((hy 3 (by omega)).mp c_104)] <;> rfl, rfl⟩)
          · refine z_iconst F (nI 2) dX6_knownWord_84 rfl ?_
            exact z_iret F E rfl dX6_knownWord_85 (by omega) (by omega) (⟨by rw [hk 2 (by omega) ((hy 2 (by omega)).mp c_81)] <;> rfl, rfl⟩)
        · refine z_iconst F (nI 1) dX6_knownWord_62 rfl ?_
          exact z_iret F E rfl dX6_knownWord_63 (by omega) (by omega) (⟨by rw [hk 1 (by omega) ((hy 1 (by omega)).mp c_59)] <;> rfl, rfl⟩)
      · refine z_iconst F (nI 0) dX6_knownWord_39 rfl ?_
        exact z_iret F E rfl dX6_knownWord_40 (by omega) (by omega) (⟨by rw [hk 0 (by omega) ((hy 0 (by omega)).mp c_36)] <;> rfl, rfl⟩)
    · refine z_iconst F (-1) dX6_knownWord_17 rfl ?_
      exact z_iret F E rfl dX6_knownWord_18 (by omega) (by omega) (⟨by rw [hno (fun q => by omega)], rfl⟩)
abbrev LF : List Nat := [9, 10, 12, 13, 14, 15, 16, 19]
/-- the reference's state: at the token b, with the fault e -/
abbrev RS (tb : Nat → Nat) (z : Nat) (F : Nat → Int32) (G : Nat → Int64) (e b : Nat) : Prop := Tk tb z F G b ∧ F 9 = nI e ∧ (e ≠ 0 → F 10 = nI b) ∧ (e = 0 → F 10 = -1)
theorem c_misGood (F0 : Nat → Int32) (G : Nat → Int64) (A : Nat → Nat → Int32) (B : Nat → Nat → Int64) (e : Nat) (he : e ≤ 6) (h9 : F0 9 = nI e) : zCtr yX6_isGood cX6_isGood 1 (some .boolean) 0 0 0 [zr 1 0] [zH, zG F0 G A B] (fun r w => r = some (zi (bI (decide (e = 0)))) ∧ w = [zH, zG F0 G A B]) zNx := by
  refine z_start (by decide) [some (zr 1 0)] rfl (fun _ => Nat.le_of_ble_eq_true rfl) (fun _ => rfl) (fun X F E hno hin => ?_)
  refine z_aload_n F dX6_isGood_0 rfl ?_
  refine z_mi F rfl 9 rfl (Nat.le_of_ble_eq_true rfl) rfl q1489 dX6_isGood_1 ?_
  refine z_ieq (h9) ?_
  refine z_if_neN F (by omega) (tgt := 11) dX6_isGood_4 (by decide) (fun c_4 => ?_) (fun c_4 => ?_)
  · refine z_iconstB F false dX6_isGood_11 rfl ?_
    exact z_zret F E rfl (bI_nar _) dX6_isGood_12 (by omega) (by omega) (⟨by rw [decide_eq_false (by omega)], rfl⟩)
  · refine z_iconstB F true dX6_isGood_7 rfl ?_
    refine z_goto F (tgt := 12) dX6_isGood_8 (by decide) ?_
    exact z_zret F E rfl (bI_nar _) dX6_isGood_12 (by omega) (by omega) (⟨by rw [decide_eq_true (by omega)], rfl⟩)
theorem c_mwrong (F0 : Nat → Int32) (G : Nat → Int64) (A : Nat → Nat → Int32) (B : Nat → Nat → Int64) (tb : Nat → Nat) (z e b k : Nat) (he : e ≤ 6) (hS : RS tb z F0 G e b) (hk : k ≠ 0) : zCtr yX6_wrong cX6_wrong 2 none 0 0 0 [zr 1 0, zi (nI k)] [zH, zG F0 G A B] (fun r w => r = none ∧ ∃ F', w = [zH, zG F' G A B] ∧ RS tb z F' G (if e = 0 then k else e) b ∧ frm [9, 10] F0 F') zNx := by
  refine z_start (by decide) [some (zr 1 0), some (zi (nI k))] rfl (fun _ => Nat.le_of_ble_eq_true rfl) (fun _ => rfl) (fun X F E hno hin => ?_)
  obtain ⟨hT, h9, h10⟩ := hS
  refine z_aload_n F dX6_wrong_0 rfl ?_
  refine z_mi F rfl 9 rfl (Nat.le_of_ble_eq_true rfl) rfl q1489 dX6_wrong_1 ?_
  refine z_ieq (h9) ?_
  refine z_if_eqN F (by omega) (tgt := 8) dX6_wrong_4 (by decide) (fun c_4 => ?_) (fun c_4 => ?_)
  · refine z_aload_n F dX6_wrong_8 rfl ?_
    refine z_iload_n F dX6_wrong_9 rfl ?_
    refine z_pmi F rfl 9 rfl (Nat.le_of_ble_eq_true rfl) rfl q1489 rfl rfl rfl dX6_wrong_10 ?_
    refine z_weq (w' := [_, _]) rfl ?_
    refine z_aload_n F dX6_wrong_13 rfl ?_
    refine z_aload_n F dX6_wrong_14 rfl ?_
    refine z_mi F rfl 14 rfl (Nat.le_of_ble_eq_true rfl) rfl q1494 dX6_wrong_15 ?_
    refine z_ieq (hT.2.2.2.1) ?_
    refine z_pmi F rfl 10 rfl (Nat.le_of_ble_eq_true rfl) rfl q1490 rfl rfl rfl dX6_wrong_18 ?_
    refine z_weq (w' := [_, _]) rfl ?_
    exact z_vret F E rfl dX6_wrong_21 (by omega) (by omega) (⟨rfl, _, rfl, by rw [if_pos (by omega)]; exact ⟨hT, rfl, fun _ => rfl, fun w => absurd w hk⟩, frm_upd (frm_upd frm.rf (by decide)) (by decide)⟩)
  · exact z_vret F E rfl dX6_wrong_7 (by omega) (by omega) (⟨rfl, F0, rfl, by rw [if_neg (by omega)]; exact ⟨hT, h9, h10⟩, frm.rf⟩)
theorem c_mneed (F0 : Nat → Int32) (G : Nat → Int64) (A : Nat → Nat → Int32) (B : Nat → Nat → Int64) (tb : Nat → Nat) (z e b : Nat) (is : Bool) (hz : z ≤ 400) (hb : b ≤ z) (htb : ∀ i, tb i < 256) (ht : ∀ i, i < z → A 7 i = nI (tb i)) (he : e ≤ 6) (hS : RS tb z F0 G e b) : zCtr yX6_need cX6_need 2 none 2 0 0 [zr 1 0, zi (bI is)] [zH, zG F0 G A B] (fun r w => r = none ∧ ∃ F' G', w = [zH, zG F' G' A B] ∧ RS tb z F' G' (needS tb z e b is).1 (needS tb z e b is).2 ∧ frm LF F0 F' ∧ frm [17] G G') zNx := by
  refine z_start (by decide) [some (zr 1 0), some (zi (bI is))] rfl (fun _ => Nat.le_of_ble_eq_true rfl) (fun _ => rfl) (fun X F E hno hin => ?_)
  have hS0 := hS
  obtain ⟨hT, h9, h10⟩ := hS
  refine z_aload_n F dX6_need_0 rfl ?_
  refine z_callV F (c_misGood F0 G A B e he h9) 0 rfl (lw_V q1804 q1806 qs54 q117 q1807) (by decide +kernel) ⟨Nat.le_of_ble_eq_true rfl, Nat.le_of_ble_eq_true rfl⟩ ⟨by omega, by omega⟩ [0, 1] 2 ⟨rfl, rfl, rfl, ⟨Or.inl rfl, Or.inr rfl, trivial⟩⟩ (fun h => nomatch h) (Nat.le_of_ble_eq_true rfl) ⟨⟨Or.inr trivial, Or.inl rfl, trivial⟩, rfl, rfl, rfl, Nat.le_of_ble_eq_true rfl⟩ rfl zC6 (zat_G0 rfl) rfl dX6_need_1 (fun r_1 w_1 hp => ?_) (fun _ _ h => h.elim)
  obtain ⟨rfl, rfl⟩ := hp
  refine z_weq (w' := [zH, zG _ _ _ _]) rfl ?_
  refine z_seq (S' := zi _ :: _) rfl ?_
  refine z_if_neB F (tgt := 8) dX6_need_4 (by decide) (fun c_4 => ?_) (fun c_4 => ?_)
  · have e0 : e = 0 := of_decide_eq_true c_4
    refine z_iload_n F dX6_need_8 rfl ?_
    refine z_if_eqB F (tgt := 19) dX6_need_9 (by decide) (fun c_9 => ?_) (fun c_9 => ?_)
    · refine z_aload_n F dX6_need_19 rfl ?_
      refine z_iconst F (nI 1) dX6_need_20 rfl ?_
      refine z_callV F (c_mwrong F0 G A B tb z e b 1 he hS0 (by decide)) 1 rfl (lw_V q1808 q1810 qs55 q117 q1811) (by decide +kernel) ⟨Nat.le_of_ble_eq_true rfl, Nat.le_of_ble_eq_true rfl⟩ ⟨by omega, by omega⟩ [0, 1] 2 ⟨rfl, rfl, rfl, ⟨Or.inl rfl, Or.inr rfl, trivial⟩⟩ (fun h => nomatch h) (Nat.le_of_ble_eq_true rfl) ⟨⟨Or.inr trivial, Or.inl rfl, trivial⟩, rfl, rfl, rfl, Nat.le_of_ble_eq_true rfl⟩ rfl zC6 (zat_G0 rfl) rfl dX6_need_21 (fun r_21 w_21 hp => ?_) (fun _ _ h => h.elim)
      obtain ⟨rfl, F2, rfl, k1, k2⟩ := hp
      refine z_weq (w' := [zH, zG _ _ _ _]) rfl ?_
      refine z_seq (S' := []) rfl ?_
      exact z_vret F E rfl dX6_need_24 (by omega) (by omega) (⟨rfl, F2, G, rfl, by
  rw [needS, if_neg (by omega), if_neg (by rw [c_9]; decide)]
  rw [if_pos e0] at k1
  exact k1, k2.to (by decide), frm.rf⟩)
    · refine z_aload_n F dX6_need_12 rfl ?_
      refine z_callV F (c_mrdGo F0 G A B tb z (en tb z b) hz ((en_ge tb z b).2 hb) htb hT.1 hT.2.1 ht) 0 rfl (lw_V q1779 q1781 qs50 q117 q1782) (by decide +kernel) ⟨Nat.le_of_ble_eq_true rfl, Nat.le_of_ble_eq_true rfl⟩ ⟨by omega, by omega⟩ [0, 1] 2 ⟨rfl, rfl, rfl, ⟨Or.inl rfl, Or.inr rfl, trivial⟩⟩ (fun h => nomatch h) (Nat.le_of_ble_eq_true rfl) ⟨⟨Or.inr trivial, Or.inl rfl, trivial⟩, rfl, rfl, rfl, Nat.le_of_ble_eq_true rfl⟩ rfl zC6 (zat_G0 rfl) rfl dX6_need_13 (fun r_13 w_13 hp => ?_) (fun _ _ h => h.elim)
      obtain ⟨rfl, F2, G2, rfl, k1, k2, k3⟩ := hp
      refine z_weq (w' := [zH, zG _ _ _ _]) rfl ?_
      refine z_seq (S' := []) rfl ?_
      refine z_goto F (tgt := 24) dX6_need_16 (by decide) ?_
      exact z_vret F E rfl dX6_need_24 (by omega) (by omega) (⟨rfl, F2, G2, rfl, by
  rw [needS, if_neg (by omega), if_pos c_9]
  exact ⟨k1, by rw [k2.at 9 rfl, h9, e0], fun q => absurd rfl q, fun _ => (k2.at 10 rfl).trans (h10.2 e0)⟩, k2.to (by decide), k3⟩)
  · have e0 : ¬ e = 0 := of_decide_eq_false c_4
    exact z_vret F E rfl dX6_need_7 (by omega) (by omega) (⟨rfl, F0, G, rfl, by rw [needS, if_pos e0]; exact hS0, frm.rf, frm.rf⟩)
theorem c_mnumber (F0 : Nat → Int32) (G : Nat → Int64) (A : Nat → Nat → Int32) (B : Nat → Nat → Int64) (tb : Nat → Nat) (z e b lo hi : Nat) (hz : z ≤ 400) (hb : b ≤ z) (htb : ∀ i, tb i < 256) (ht : ∀ i, i < z → A 7 i = nI (tb i)) (he : e ≤ 6) (hS : RS tb z F0 G e b) (hlo : lo < 100) (hhi : hi < 100) : zCtr yX6_number cX6_number 4 (some .int) 2 0 0 [zr 1 0, zi (nI lo), zi (nI hi)] [zH, zG F0 G A B] (fun r w => ∃ v F' G', r = some (zi (nI v)) ∧ ((numS tb z lo hi e b).1 = 0 → v = rv tb z b) ∧ w = [zH, zG F' G' A B] ∧ RS tb z F' G' (numS tb z lo hi e b).1 (numS tb z lo hi e b).2 ∧ frm LF F0 F' ∧ frm [17] G G') zNx := by
  refine z_start (by decide) [some (zr 1 0), some (zi (nI lo)), some (zi (nI hi)), none] rfl (fun _ => Nat.le_of_ble_eq_true rfl) (fun _ => rfl) (fun X F E hno hin => ?_)
  have hS0 := hS
  obtain ⟨hT, h9, h10⟩ := hS
  have hkd := kd_lt tb z b
  have hen := (en_ge tb z b).2 hb
  have hvv : vv tb z b < 1000 := by
    unfold vv
    split
    · rename_i q
      exact rvd_999 (tk_D q).2.2.2
    · omega
  have at54 : e = 0 → ∀ (F1 : Nat → Int32) (e1 : Nat), e1 = nuE tb z lo hi b → RS tb z F1 G e1 b → frm [9, 10] F0 F1 → Z X [some (zr 1 0), none, none, none] [] [zH, zG F1 G A B] 0 0 54 := by
    intro e0 F1 e1 he1 hS1 hF
    have hle := nuE_le tb z lo hi b
    obtain ⟨kT, k9, k10⟩ := id hS1
    refine z_aload_n F dX6_number_54 rfl ?_
    refine z_mi F rfl 16 rfl (Nat.le_of_ble_eq_true rfl) rfl q1496 dX6_number_55 ?_
    refine z_ieq (kT.2.2.2.2.2.1) ?_
    refine z_istore_n F dX6_number_58 (Nat.le_of_ble_eq_true rfl) ?_
    refine z_leq (L' := [_, _, _, _]) rfl ?_
    refine z_aload_n F dX6_number_59 rfl ?_
    refine z_callV F (c_misGood F1 G A B e1 (by omega) k9) 0 rfl (lw_V q1804 q1806 qs54 q117 q1807) (by decide +kernel) ⟨Nat.le_of_ble_eq_true rfl, Nat.le_of_ble_eq_true rfl⟩ ⟨by omega, by omega⟩ [0, 1] 2 ⟨rfl, rfl, rfl, ⟨Or.inl rfl, Or.inr rfl, trivial⟩⟩ (fun h => nomatch h) (Nat.le_of_ble_eq_true rfl) ⟨⟨Or.inr trivial, Or.inl rfl, trivial⟩, rfl, rfl, rfl, Nat.le_of_ble_eq_true rfl⟩ rfl zC6 (zat_G0 rfl) rfl dX6_number_60 (fun r_60 w_60 hp => ?_) (fun _ _ h => h.elim)
    obtain ⟨rfl, rfl⟩ := hp
    refine z_weq (w' := [zH, zG _ _ _ _]) rfl ?_
    refine z_seq (S' := zi _ :: _) rfl ?_
    refine z_if_eqB F (tgt := 70) dX6_number_63 (by decide) (fun c_63 => ?_) (fun c_63 => ?_)
    · have q : ¬ e1 = 0 := of_decide_eq_false c_63
      refine z_iload_n F dX6_number_70 rfl ?_
      exact z_iret F E rfl dX6_number_71 (by omega) (by omega) (⟨vv tb z b, F1, G, rfl, fun w => by
  rw [numS, if_neg (by omega), if_neg (by omega)] at w
  exact absurd (he1.trans w) q, rfl, by
  rw [numS, if_neg (by omega), if_neg (by omega), ← he1]
  exact hS1, hF.to (by decide), frm.rf⟩)
    · have q : e1 = 0 := of_decide_eq_true c_63
      refine z_aload_n F dX6_number_66 rfl ?_
      refine z_callV F (c_mrdGo F1 G A B tb z (en tb z b) hz hen htb kT.1 kT.2.1 ht) 0 rfl (lw_V q1779 q1781 qs50 q117 q1782) (by decide +kernel) ⟨Nat.le_of_ble_eq_true rfl, Nat.le_of_ble_eq_true rfl⟩ ⟨by omega, by omega⟩ [0, 1] 2 ⟨rfl, rfl, rfl, ⟨Or.inl rfl, Or.inr rfl, trivial⟩⟩ (fun h => nomatch h) (Nat.le_of_ble_eq_true rfl) ⟨⟨Or.inr trivial, Or.inl rfl, trivial⟩, rfl, rfl, rfl, Nat.le_of_ble_eq_true rfl⟩ rfl zC6 (zat_G0 rfl) rfl dX6_number_67 (fun r_67 w_67 hp => ?_) (fun _ _ h => h.elim)
      obtain ⟨rfl, F2, G2, rfl, m1, m2, m3⟩ := hp
      refine z_weq (w' := [zH, zG _ _ _ _]) rfl ?_
      refine z_seq (S' := []) rfl ?_
      refine z_iload_n F dX6_number_70 rfl ?_
      exact z_iret F E rfl dX6_number_71 (by omega) (by omega) (⟨vv tb z b, F2, G2, rfl, fun _ => by
  have := (nuE_0 (he1.symm.trans q)).1
  rw [vv, if_pos this], rfl, by
  rw [numS, if_neg (by omega), if_pos (by omega)]
  exact ⟨m1, by rw [m2.at 9 rfl, k9, q], fun w => absurd rfl w, fun _ => (m2.at 10 rfl).trans (k10.2 q)⟩, hF.tr m2 (by decide) (by decide), m3⟩)
  have nu1 : ∀ q, kd tb z b = 2 → (q = 0 ↔ (en tb z b - b ≤ 3 ∧ lo ≤ rv tb z b ∧ rv tb z b ≤ hi)) → (q = 0 ∨ q = 2) → q = nuE tb z lo hi b := fun q hk h1 h2 => by
    unfold nuE
    rw [if_neg (by omega)]
    by_cases c : 3 < en tb z b - b ∨ rv tb z b < lo ∨ hi < rv tb z b
    · rw [if_pos c]
      rcases h2 with h2 | h2
      · have := h1.mp h2; omega
      · exact h2
    · rw [if_neg c]; exact h1.mpr ⟨by omega, by omega, by omega⟩
  have hvr : kd tb z b = 2 → vv tb z b = rv tb z b := fun q => if_pos q
  refine z_aload_n F dX6_number_0 rfl ?_
  refine z_callV F (c_misGood F0 G A B e he h9) 0 rfl (lw_V q1804 q1806 qs54 q117 q1807) (by decide +kernel) ⟨Nat.le_of_ble_eq_true rfl, Nat.le_of_ble_eq_true rfl⟩ ⟨by omega, by omega⟩ [0, 1] 2 ⟨rfl, rfl, rfl, ⟨Or.inl rfl, Or.inr rfl, trivial⟩⟩ (fun h => nomatch h) (Nat.le_of_ble_eq_true rfl) ⟨⟨Or.inr trivial, Or.inl rfl, trivial⟩, rfl, rfl, rfl, Nat.le_of_ble_eq_true rfl⟩ rfl zC6 (zat_G0 rfl) rfl dX6_number_1 (fun r_1 w_1 hp => ?_) (fun _ _ h => h.elim)
  obtain ⟨rfl, rfl⟩ := hp
  refine z_weq (w' := [zH, zG _ _ _ _]) rfl ?_
  refine z_seq (S' := zi _ :: _) rfl ?_
  refine z_if_neB F (tgt := 9) dX6_number_4 (by decide) (fun c_4 => ?_) (fun c_4 => ?_)
  · have e0 : e = 0 := of_decide_eq_true c_4
    refine z_aload_n F dX6_number_9 rfl ?_
    refine z_mi F rfl 13 rfl (Nat.le_of_ble_eq_true rfl) rfl q1493 dX6_number_10 ?_
    refine z_ieq (hT.2.2.1) ?_
    refine z_iconst F (nI 2) dX6_number_13 rfl ?_
    refine z_icmp_eqN F (by omega) (by omega) (tgt := 25) dX6_number_14 (by decide) (fun c_14 => ?_) (fun c_14 => ?_)
    · refine z_aload_n F dX6_number_25 rfl ?_
      refine z_mi F rfl 15 rfl (Nat.le_of_ble_eq_true rfl) rfl q1495 dX6_number_26 ?_
      refine z_ieq (hT.2.2.2.2.1) ?_
      refine z_iconst F (nI 3) dX6_number_29 rfl ?_
      refine z_icmp_gtN F (by omega) (by omega) (tgt := 49) dX6_number_30 (by decide) (fun c_30 => ?_) (fun c_30 => ?_)
      · refine z_aload_n F dX6_number_49 rfl ?_
        refine z_iconst F (nI 2) dX6_number_50 rfl ?_
        refine z_callV F (c_mwrong F0 G A B tb z e b 2 he hS0 (by decide)) 1 rfl (lw_V q1808 q1810 qs55 q117 q1811) (by decide +kernel) ⟨Nat.le_of_ble_eq_true rfl, Nat.le_of_ble_eq_true rfl⟩ ⟨by omega, by omega⟩ [0, 1] 2 ⟨rfl, rfl, rfl, ⟨Or.inl rfl, Or.inr rfl, trivial⟩⟩ (fun h => nomatch h) (Nat.le_of_ble_eq_true rfl) ⟨⟨Or.inr trivial, Or.inl rfl, trivial⟩, rfl, rfl, rfl, Nat.le_of_ble_eq_true rfl⟩ rfl zC6 (zat_G0 rfl) rfl dX6_number_51 (fun r_51 w_51 hp => ?_) (fun _ _ h => h.elim)
        obtain ⟨rfl, F2, rfl, k1, k2⟩ := hp
        rw [if_pos e0] at k1
        refine z_weq (w' := [zH, zG _ _ _ _]) rfl ?_
        refine z_seq (S' := []) rfl ?_
        refine z_loc _ ?_ (at54 e0 F2 2 (nu1 2 (by omega) ⟨fun w => by omega, fun w => by omega⟩ (Or.inr rfl)) k1 k2)
        exact ⟨rfl, trivial⟩
      · refine z_aload_n F dX6_number_33 rfl ?_
        refine z_mi F rfl 16 rfl (Nat.le_of_ble_eq_true rfl) rfl q1496 dX6_number_34 ?_
        refine z_ieq (hT.2.2.2.2.2.1) ?_
        refine z_iload_n F dX6_number_37 rfl ?_
        refine z_icmp_ltN F (by omega) (by omega) (tgt := 49) dX6_number_38 (by decide) (fun c_38 => ?_) (fun c_38 => ?_)
        · refine z_aload_n F dX6_number_49 rfl ?_
          refine z_iconst F (nI 2) dX6_number_50 rfl ?_
          refine z_callV F (c_mwrong F0 G A B tb z e b 2 he hS0 (by decide)) 1 rfl (lw_V q1808 q1810 qs55 q117 q1811) (by decide +kernel) ⟨Nat.le_of_ble_eq_true rfl, Nat.le_of_ble_eq_true rfl⟩ ⟨by omega, by omega⟩ [0, 1] 2 ⟨rfl, rfl, rfl, ⟨Or.inl rfl, Or.inr rfl, trivial⟩⟩ (fun h => nomatch h) (Nat.le_of_ble_eq_true rfl) ⟨⟨Or.inr trivial, Or.inl rfl, trivial⟩, rfl, rfl, rfl, Nat.le_of_ble_eq_true rfl⟩ rfl zC6 (zat_G0 rfl) rfl dX6_number_51 (fun r_51 w_51 hp => ?_) (fun _ _ h => h.elim)
          obtain ⟨rfl, F2, rfl, k1, k2⟩ := hp
          rw [if_pos e0] at k1
          refine z_weq (w' := [zH, zG _ _ _ _]) rfl ?_
          refine z_seq (S' := []) rfl ?_
          have hr := hvr (by omega)
          refine z_loc _ ?_ (at54 e0 F2 2 (nu1 2 (by omega) ⟨fun w => by omega, fun w => by omega⟩ (Or.inr rfl)) k1 k2)
          exact ⟨rfl, trivial⟩
        · refine z_aload_n F dX6_number_41 rfl ?_
          refine z_mi F rfl 16 rfl (Nat.le_of_ble_eq_true rfl) rfl q1496 dX6_number_42 ?_
          refine z_ieq (hT.2.2.2.2.2.1) ?_
          refine z_iload_n F dX6_number_45 rfl ?_
          refine z_icmp_leN F (by omega) (by omega) (tgt := 54) dX6_number_46 (by decide) (fun c_46 => ?_) (fun c_46 => ?_)
          · have hr := hvr (by omega)
            refine z_loc _ ?_ (at54 e0 F0 0 (nu1 0 (by omega) ⟨fun _ => ⟨by omega, by omega, by omega⟩, fun _ => rfl⟩ (Or.inl rfl)) (by rw [e0] at hS0; exact hS0) frm.rf)
            exact ⟨rfl, trivial⟩
          · refine z_aload_n F dX6_number_49 rfl ?_
            refine z_iconst F (nI 2) dX6_number_50 rfl ?_
            refine z_callV F (c_mwrong F0 G A B tb z e b 2 he hS0 (by decide)) 1 rfl (lw_V q1808 q1810 qs55 q117 q1811) (by decide +kernel) ⟨Nat.le_of_ble_eq_true rfl, Nat.le_of_ble_eq_true rfl⟩ ⟨by omega, by omega⟩ [0, 1] 2 ⟨rfl, rfl, rfl, ⟨Or.inl rfl, Or.inr rfl, trivial⟩⟩ (fun h => nomatch h) (Nat.le_of_ble_eq_true rfl) ⟨⟨Or.inr trivial, Or.inl rfl, trivial⟩, rfl, rfl, rfl, Nat.le_of_ble_eq_true rfl⟩ rfl zC6 (zat_G0 rfl) rfl dX6_number_51 (fun r_51 w_51 hp => ?_) (fun _ _ h => h.elim)
            obtain ⟨rfl, F2, rfl, k1, k2⟩ := hp
            rw [if_pos e0] at k1
            refine z_weq (w' := [zH, zG _ _ _ _]) rfl ?_
            refine z_seq (S' := []) rfl ?_
            have hr := hvr (by omega)
            refine z_loc _ ?_ (at54 e0 F2 2 (nu1 2 (by omega) ⟨fun w => by omega, fun w => by omega⟩ (Or.inr rfl)) k1 k2)
            exact ⟨rfl, trivial⟩
    · refine z_aload_n F dX6_number_17 rfl ?_
      refine z_iconst F (nI 1) dX6_number_18 rfl ?_
      refine z_callV F (c_mwrong F0 G A B tb z e b 1 he hS0 (by decide)) 1 rfl (lw_V q1808 q1810 qs55 q117 q1811) (by decide +kernel) ⟨Nat.le_of_ble_eq_true rfl, Nat.le_of_ble_eq_true rfl⟩ ⟨by omega, by omega⟩ [0, 1] 2 ⟨rfl, rfl, rfl, ⟨Or.inl rfl, Or.inr rfl, trivial⟩⟩ (fun h => nomatch h) (Nat.le_of_ble_eq_true rfl) ⟨⟨Or.inr trivial, Or.inl rfl, trivial⟩, rfl, rfl, rfl, Nat.le_of_ble_eq_true rfl⟩ rfl zC6 (zat_G0 rfl) rfl dX6_number_19 (fun r_19 w_19 hp => ?_) (fun _ _ h => h.elim)
      obtain ⟨rfl, F2, rfl, k1, k2⟩ := hp
      rw [if_pos e0] at k1
      refine z_weq (w' := [zH, zG _ _ _ _]) rfl ?_
      refine z_seq (S' := []) rfl ?_
      refine z_goto F (tgt := 54) dX6_number_22 (by decide) ?_
      refine z_loc _ ?_ (at54 e0 F2 1 (by unfold nuE; rw [if_pos (by omega)]) k1 k2)
      exact ⟨rfl, trivial⟩
  · have e0 : ¬ e = 0 := of_decide_eq_false c_4
    refine z_iconst F (nI 0) dX6_number_7 rfl ?_
    exact z_iret F E rfl dX6_number_8 (by omega) (by omega) (⟨0, F0, G, rfl, fun w => by rw [numS, if_pos e0] at w; exact absurd w e0, rfl, by rw [numS, if_pos e0]; exact hS0, frm.rf, frm.rf⟩)
theorem c_mknot (F0 : Nat → Int32) (G : Nat → Int64) (A : Nat → Nat → Int32) (B : Nat → Nat → Int64) (tb : Nat → Nat) (z n e b m : Nat) (l : Nat → Nat) (hz : z ≤ 400) (hb : b ≤ z) (htb : ∀ i, tb i < 256) (ht : ∀ i, i < z → A 7 i = nI (tb i)) (he : e ≤ 6) (hS : RS tb z F0 G e b) (h4 : F0 4 = nI n) (hn : n ≤ 24) (hl : lok n l m) (h19 : F0 19 = nI m) (hA : ∀ k, k < m → A 18 k = nI (l k)) : zCtr yX6_knot cX6_knot 2 none 2 0 0 [zr 1 0] [zH, zG F0 G A B] (fun r w => r = none ∧ ∃ F' G' A', w = [zH, zG F' G' A' B] ∧ RS tb z F' G' (kn1 tb z n (e, b, l, m)).1 (kn1 tb z n (e, b, l, m)).2.1 ∧ F' 19 = nI (kn1 tb z n (e, b, l, m)).2.2.2 ∧ (∀ k, k < (kn1 tb z n (e, b, l, m)).2.2.2 → A' 18 k = nI ((kn1 tb z n (e, b, l, m)).2.2.1 k)) ∧ frm LF F0 F' ∧ frm [17] G G' ∧ frm [18] A A') zNx := by
  refine z_start (by decide) [some (zr 1 0), none] rfl (fun _ => Nat.le_of_ble_eq_true rfl) (fun _ => rfl) (fun X F E hno hin => ?_)
  have hS0 := hS
  obtain ⟨hT, h9, h10⟩ := hS
  have hkd := kd_lt tb z b
  have hen := (en_ge tb z b).2 hb
  have hm12 := hl.2.2
  have hvv : vv tb z b < 1000 := by
    unfold vv
    split
    · rename_i q
      exact rvd_999 (tk_D q).2.2.2
    · omega
  have hvr : kd tb z b = 2 → vv tb z b = rv tb z b := fun q => if_pos q
  -- a fault
  have bad : e = 0 → ∀ (e1 : Nat) (F1 : Nat → Int32), e1 ≠ 0 → e1 = knE tb z n l m b → RS tb z F1 G e1 b → frm [9, 10] F0 F1 → Z X [some (zr 1 0), none] [] [zH, zG F1 G A B] 0 0 106 := by
    intro e0 e1 F1 hne he1 hS1 hF
    have hle := knE_le tb z n l m b
    have ek : kn1 tb z n (e, b, l, m) = (e1, b, l, m) := by
      unfold kn1
      rw [if_neg (by show ¬ e ≠ 0; omega), if_neg (by show ¬ knE tb z n l m b = 0; omega), ← he1]
    refine z_aload_n F dX6_knot_106 rfl ?_
    refine z_callV F (c_misGood F1 G A B e1 (by omega) hS1.2.1) 0 rfl (lw_V q1804 q1806 qs54 q117 q1807) (by decide +kernel) ⟨Nat.le_of_ble_eq_true rfl, Nat.le_of_ble_eq_true rfl⟩ ⟨by omega, by omega⟩ [0, 1] 2 ⟨rfl, rfl, rfl, ⟨Or.inl rfl, Or.inr rfl, trivial⟩⟩ (fun h => nomatch h) (Nat.le_of_ble_eq_true rfl) ⟨⟨Or.inr trivial, Or.inl rfl, trivial⟩, rfl, rfl, rfl, Nat.le_of_ble_eq_true rfl⟩ rfl zC6 (zat_G0 rfl) rfl dX6_knot_107 (fun r_107 w_107 hp => ?_) (fun _ _ h => h.elim)
    obtain ⟨rfl, rfl⟩ := hp
    refine z_weq (w' := [zH, zG _ _ _ _]) rfl ?_
    refine z_seq (S' := zi _ :: _) rfl ?_
    refine z_if_neB F (tgt := 114) dX6_knot_110 (by decide) (fun c_110 => ?_) (fun c_110 => ?_)
    · exact absurd (of_decide_eq_true c_110) hne
    · exact z_vret F E rfl dX6_knot_113 (by omega) (by omega) (⟨rfl, F1, G, A, rfl, by rw [ek]; exact hS1, by rw [ek, hF.at 19 rfl]; exact h19, by rw [ek]; exact hA, hF.to (by decide), frm.rf, frm.rf⟩)
  have lp1 : e = 0 → ∀ (e1 : Nat) (F1 : Nat → Int32), e1 ≠ 0 → e1 = knE tb z n l m b → RS tb z F1 G e1 b → frm [9, 10] F0 F1 → ∀ k, k ≤ m → Z X [some (zr 1 0), some (zi (nI k))] [] [zH, zG F1 G A B] 0 0 67 := by
    intro e0 e1 F1 hne he1 hS1 hF k hk
    have hle := knE_le tb z n l m b
    refine z_iload_n F dX6_knot_67 rfl ?_
    refine z_aload_n F dX6_knot_68 rfl ?_
    refine z_mi F rfl 19 rfl (Nat.le_of_ble_eq_true rfl) rfl q1499 dX6_knot_69 ?_
    refine z_ieq ((hF.at 19 rfl).trans h19) ?_
    refine z_icmp_geN F (by omega) (by omega) (tgt := 106) dX6_knot_72 (by decide) (fun c_72 => ?_) (fun c_72 => ?_)
    · refine z_loc _ ?_ (bad e0 e1 F1 hne he1 hS1 hF)
      exact ⟨rfl, trivial⟩
    · refine z_aload_n F dX6_knot_75 rfl ?_
      refine z_callV F (c_misGood F1 G A B e1 (by omega) hS1.2.1) 0 rfl (lw_V q1804 q1806 qs54 q117 q1807) (by decide +kernel) ⟨Nat.le_of_ble_eq_true rfl, Nat.le_of_ble_eq_true rfl⟩ ⟨by omega, by omega⟩ [0, 1] 2 ⟨rfl, rfl, rfl, ⟨Or.inl rfl, Or.inr rfl, trivial⟩⟩ (fun h => nomatch h) (Nat.le_of_ble_eq_true rfl) ⟨⟨Or.inr trivial, Or.inl rfl, trivial⟩, rfl, rfl, rfl, Nat.le_of_ble_eq_true rfl⟩ rfl zC6 (zat_G0 rfl) rfl dX6_knot_76 (fun r_76 w_76 hp => ?_) (fun _ _ h => h.elim)
      obtain ⟨rfl, rfl⟩ := hp
      refine z_weq (w' := [zH, zG _ _ _ _]) rfl ?_
      refine z_seq (S' := zi _ :: _) rfl ?_
      refine z_if_eqB F (tgt := 106) dX6_knot_79 (by decide) (fun c_79 => ?_) (fun c_79 => ?_)
      · refine z_loc _ ?_ (bad e0 e1 F1 hne he1 hS1 hF)
        exact ⟨rfl, trivial⟩
      · exact absurd (of_decide_eq_true c_79) hne
  have lp0 : e = 0 → kd tb z b = 2 → en tb z b - b ≤ 3 → m ≠ 12 → rv tb z b < n → ∀ (u k : Nat), m - k < u → k ≤ m → lmem l (rv tb z b) k = false → Z X [some (zr 1 0), some (zi (nI k))] [] [zH, zG F0 G A B] 0 0 67 := by
    intro e0 q1 q2 q3 q4 u
    induction u with
    | zero => intro k hu; omega
    | succ u ih =>
      intro k hu hk hlm
      have hr := hvr q1
      have hlk := fun w => hl.1 k w
      have a18 := fun w => hA k w
      have nxt := fun z1 z2 => ih (k + 1) (by omega) z1 z2
      refine z_iload_n F dX6_knot_67 rfl ?_
      refine z_aload_n F dX6_knot_68 rfl ?_
      refine z_mi F rfl 19 rfl (Nat.le_of_ble_eq_true rfl) rfl q1499 dX6_knot_69 ?_
      refine z_ieq (h19) ?_
      refine z_icmp_geN F (by omega) (by omega) (tgt := 106) dX6_knot_72 (by decide) (fun c_72 => ?_) (fun c_72 => ?_)
      · have ek : k = m := by omega
        subst ek
        have hE : knE tb z n l k b = 0 := by unfold knE; rw [if_neg (by omega), if_neg (by omega), if_neg (by omega), if_neg (by rw [hlm]; decide)]
        have ek1 : kn1 tb z n (e, b, l, k) = (0, nb tb z b, lput l k (rv tb z b), k + 1) := by
          unfold kn1
          rw [if_neg (by show ¬ e ≠ 0; omega), if_pos hE]
        refine z_aload_n F dX6_knot_106 rfl ?_
        refine z_callV F (c_misGood F0 G A B e he h9) 0 rfl (lw_V q1804 q1806 qs54 q117 q1807) (by decide +kernel) ⟨Nat.le_of_ble_eq_true rfl, Nat.le_of_ble_eq_true rfl⟩ ⟨by omega, by omega⟩ [0, 1] 2 ⟨rfl, rfl, rfl, ⟨Or.inl rfl, Or.inr rfl, trivial⟩⟩ (fun h => nomatch h) (Nat.le_of_ble_eq_true rfl) ⟨⟨Or.inr trivial, Or.inl rfl, trivial⟩, rfl, rfl, rfl, Nat.le_of_ble_eq_true rfl⟩ rfl zC6 (zat_G0 rfl) rfl dX6_knot_107 (fun r_107 w_107 hp => ?_) (fun _ _ h => h.elim)
        obtain ⟨rfl, rfl⟩ := hp
        refine z_weq (w' := [zH, zG _ _ _ _]) rfl ?_
        refine z_seq (S' := zi _ :: _) rfl ?_
        refine z_if_neB F (tgt := 114) dX6_knot_110 (by decide) (fun c_110 => ?_) (fun c_110 => ?_)
        · refine z_aload_n F dX6_knot_114 rfl ?_
          refine z_ma F rfl 18 rfl (Nat.le_of_ble_eq_true rfl) rfl q1498 dX6_knot_115 ?_
          refine z_aload_n F dX6_knot_118 rfl ?_
          refine z_mi F rfl 19 rfl (Nat.le_of_ble_eq_true rfl) rfl q1499 dX6_knot_119 ?_
          refine z_ieq (h19) ?_
          refine z_aload_n F dX6_knot_122 rfl ?_
          refine z_mi F rfl 16 rfl (Nat.le_of_ble_eq_true rfl) rfl q1496 dX6_knot_123 ?_
          refine z_ieq ((hT.2.2.2.2.2.1.trans (by rw [hr]) : F0 16 = nI (rv tb z b))) ?_
          refine z_iastGN F rfl rfl (Nat.le_of_ble_eq_true rfl) (by omega) dX6_knot_126 ?_
          refine z_weq (w' := [_, _]) rfl ?_
          refine z_aload_n F dX6_knot_127 rfl ?_
          refine z_dup F dX6_knot_128 rfl ?_
          refine z_mi F rfl 19 rfl (Nat.le_of_ble_eq_true rfl) rfl q1499 dX6_knot_129 ?_
          refine z_ieq (h19) ?_
          refine z_iconst F (nI 1) dX6_knot_132 rfl ?_
          refine z_iaddN F dX6_knot_133 ?_
          refine z_pmi F rfl 19 rfl (Nat.le_of_ble_eq_true rfl) rfl q1499 rfl rfl rfl dX6_knot_134 ?_
          refine z_weq (w' := [_, _]) rfl ?_
          refine z_aload_n F dX6_knot_137 rfl ?_
          refine z_callV F (c_mrdGo (upd F0 19 (nI (k + 1))) G (zup2 A 18 k (nI (rv tb z b))) B tb z (en tb z b) hz hen htb hT.1 hT.2.1 (fun i hi => by rw [zup2_ne (by decide)]; exact ht i hi)) 0 rfl (lw_V q1779 q1781 qs50 q117 q1782) (by decide +kernel) ⟨Nat.le_of_ble_eq_true rfl, Nat.le_of_ble_eq_true rfl⟩ ⟨by omega, by omega⟩ [0, 1] 2 ⟨rfl, rfl, rfl, ⟨Or.inl rfl, Or.inr rfl, trivial⟩⟩ (fun h => nomatch h) (Nat.le_of_ble_eq_true rfl) ⟨⟨Or.inr trivial, Or.inl rfl, trivial⟩, rfl, rfl, rfl, Nat.le_of_ble_eq_true rfl⟩ rfl zC6 (zat_G0 rfl) rfl dX6_knot_138 (fun r_138 w_138 hp => ?_) (fun _ _ h => h.elim)
          obtain ⟨rfl, F2, G2, rfl, m1, m2, m3⟩ := hp
          refine z_weq (w' := [zH, zG _ _ _ _]) rfl ?_
          refine z_seq (S' := []) rfl ?_
          exact z_vret F E rfl dX6_knot_141 (by omega) (by omega) (⟨rfl, F2, G2, _, rfl, by
  rw [ek1]
  exact ⟨m1, by rw [m2.at 9 rfl]; exact h9.trans (by rw [e0]), fun w => absurd rfl w, fun _ => (m2.at 10 rfl).trans (h10.2 e0)⟩, by rw [ek1, m2.at 19 rfl]; rfl, fun i hi => by
  rw [ek1] at hi ⊢
  rw [zup2_row]
  show (if i = k then _ else A 18 i) = nI (if i = k then _ else l i)
  by_cases w : i = k
  · rw [if_pos w, if_pos w]
  · rw [if_neg w, if_neg w]; exact hA i (by have hi : i < k + 1 := hi; omega), (frm_upd (l := [19]) frm.rf (by decide)).tr m2 (by decide) (by decide), m3, frm_zup frm.rf (by decide)⟩)
        · exact absurd e0 (of_decide_eq_false c_110)
      · refine z_aload_n F dX6_knot_75 rfl ?_
        refine z_callV F (c_misGood F0 G A B e he h9) 0 rfl (lw_V q1804 q1806 qs54 q117 q1807) (by decide +kernel) ⟨Nat.le_of_ble_eq_true rfl, Nat.le_of_ble_eq_true rfl⟩ ⟨by omega, by omega⟩ [0, 1] 2 ⟨rfl, rfl, rfl, ⟨Or.inl rfl, Or.inr rfl, trivial⟩⟩ (fun h => nomatch h) (Nat.le_of_ble_eq_true rfl) ⟨⟨Or.inr trivial, Or.inl rfl, trivial⟩, rfl, rfl, rfl, Nat.le_of_ble_eq_true rfl⟩ rfl zC6 (zat_G0 rfl) rfl dX6_knot_76 (fun r_76 w_76 hp => ?_) (fun _ _ h => h.elim)
        obtain ⟨rfl, rfl⟩ := hp
        refine z_weq (w' := [zH, zG _ _ _ _]) rfl ?_
        refine z_seq (S' := zi _ :: _) rfl ?_
        refine z_if_eqB F (tgt := 106) dX6_knot_79 (by decide) (fun c_79 => ?_) (fun c_79 => ?_)
        · exact absurd e0 (of_decide_eq_false c_79)
        · have hlk := hlk (by omega)
          have a18 := a18 (by omega)
          refine z_aload_n F dX6_knot_82 rfl ?_
          refine z_ma F rfl 18 rfl (Nat.le_of_ble_eq_true rfl) rfl q1498 dX6_knot_83 ?_
          refine z_iload_n F dX6_knot_86 rfl ?_
          refine z_ialdGN F rfl rfl (Nat.le_of_ble_eq_true rfl) (by omega) rfl dX6_knot_87 ?_
          refine z_ieq (a18) ?_
          refine z_aload_n F dX6_knot_88 rfl ?_
          refine z_mi F rfl 16 rfl (Nat.le_of_ble_eq_true rfl) rfl q1496 dX6_knot_89 ?_
          refine z_ieq ((hT.2.2.2.2.2.1.trans (by rw [hr]) : F0 16 = nI (rv tb z b))) ?_
          refine z_icmp_neN F (by omega) (by omega) (tgt := 100) dX6_knot_92 (by decide) (fun c_92 => ?_) (fun c_92 => ?_)
          · refine z_iincN F 1 dX6_knot_100 rfl rfl ?_
            refine z_leq (L' := [_, _]) rfl ?_
            refine z_goto F (tgt := 67) dX6_knot_103 (by decide) ?_
            refine nxt (by omega) ?_
            rw [lmem, hlm, decide_eq_false c_92]; rfl
          · refine z_aload_n F dX6_knot_95 rfl ?_
            refine z_iconst F (nI 4) dX6_knot_96 rfl ?_
            refine z_callV F (c_mwrong F0 G A B tb z e b 4 he hS0 (by decide)) 1 rfl (lw_V q1808 q1810 qs55 q117 q1811) (by decide +kernel) ⟨Nat.le_of_ble_eq_true rfl, Nat.le_of_ble_eq_true rfl⟩ ⟨by omega, by omega⟩ [0, 1] 2 ⟨rfl, rfl, rfl, ⟨Or.inl rfl, Or.inr rfl, trivial⟩⟩ (fun h => nomatch h) (Nat.le_of_ble_eq_true rfl) ⟨⟨Or.inr trivial, Or.inl rfl, trivial⟩, rfl, rfl, rfl, Nat.le_of_ble_eq_true rfl⟩ rfl zC6 (zat_G0 rfl) rfl dX6_knot_97 (fun r_97 w_97 hp => ?_) (fun _ _ h => h.elim)
            obtain ⟨rfl, F2, rfl, k1, k2⟩ := hp
            rw [if_pos e0] at k1
            refine z_weq (w' := [zH, zG _ _ _ _]) rfl ?_
            refine z_seq (S' := []) rfl ?_
            refine z_iincN F 1 dX6_knot_100 rfl rfl ?_
            refine z_leq (L' := [_, _]) rfl ?_
            refine z_goto F (tgt := 67) dX6_knot_103 (by decide) ?_
            refine lp1 e0 4 F2 (by omega) ?_ k1 k2 (k + 1) (by omega)
            unfold knE
            rw [if_neg (by omega), if_neg (by omega), if_neg (by omega), if_pos (lmem_t.mpr ⟨k, by omega, c_92⟩)]
  refine z_aload_n F dX6_knot_0 rfl ?_
  refine z_callV F (c_misGood F0 G A B e he h9) 0 rfl (lw_V q1804 q1806 qs54 q117 q1807) (by decide +kernel) ⟨Nat.le_of_ble_eq_true rfl, Nat.le_of_ble_eq_true rfl⟩ ⟨by omega, by omega⟩ [0, 1] 2 ⟨rfl, rfl, rfl, ⟨Or.inl rfl, Or.inr rfl, trivial⟩⟩ (fun h => nomatch h) (Nat.le_of_ble_eq_true rfl) ⟨⟨Or.inr trivial, Or.inl rfl, trivial⟩, rfl, rfl, rfl, Nat.le_of_ble_eq_true rfl⟩ rfl zC6 (zat_G0 rfl) rfl dX6_knot_1 (fun r_1 w_1 hp => ?_) (fun _ _ h => h.elim)
  obtain ⟨rfl, rfl⟩ := hp
  refine z_weq (w' := [zH, zG _ _ _ _]) rfl ?_
  refine z_seq (S' := zi _ :: _) rfl ?_
  refine z_if_neB F (tgt := 8) dX6_knot_4 (by decide) (fun c_4 => ?_) (fun c_4 => ?_)
  · have e0 : e = 0 := of_decide_eq_true c_4
    refine z_aload_n F dX6_knot_8 rfl ?_
    refine z_mi F rfl 13 rfl (Nat.le_of_ble_eq_true rfl) rfl q1493 dX6_knot_9 ?_
    refine z_ieq (hT.2.2.1) ?_
    refine z_iconst F (nI 2) dX6_knot_12 rfl ?_
    refine z_icmp_eqN F (by omega) (by omega) (tgt := 24) dX6_knot_13 (by decide) (fun c_13 => ?_) (fun c_13 => ?_)
    · refine z_aload_n F dX6_knot_24 rfl ?_
      refine z_mi F rfl 15 rfl (Nat.le_of_ble_eq_true rfl) rfl q1495 dX6_knot_25 ?_
      refine z_ieq (hT.2.2.2.2.1) ?_
      refine z_iconst F (nI 3) dX6_knot_28 rfl ?_
      refine z_icmp_gtN F (by omega) (by omega) (tgt := 41) dX6_knot_29 (by decide) (fun c_29 => ?_) (fun c_29 => ?_)
      · refine z_aload_n F dX6_knot_41 rfl ?_
        refine z_iconst F (nI 2) dX6_knot_42 rfl ?_
        refine z_callV F (c_mwrong F0 G A B tb z e b 2 he hS0 (by decide)) 1 rfl (lw_V q1808 q1810 qs55 q117 q1811) (by decide +kernel) ⟨Nat.le_of_ble_eq_true rfl, Nat.le_of_ble_eq_true rfl⟩ ⟨by omega, by omega⟩ [0, 1] 2 ⟨rfl, rfl, rfl, ⟨Or.inl rfl, Or.inr rfl, trivial⟩⟩ (fun h => nomatch h) (Nat.le_of_ble_eq_true rfl) ⟨⟨Or.inr trivial, Or.inl rfl, trivial⟩, rfl, rfl, rfl, Nat.le_of_ble_eq_true rfl⟩ rfl zC6 (zat_G0 rfl) rfl dX6_knot_43 (fun r_43 w_43 hp => ?_) (fun _ _ h => h.elim)
        obtain ⟨rfl, F2, rfl, k1, k2⟩ := hp
        rw [if_pos e0] at k1
        refine z_weq (w' := [zH, zG _ _ _ _]) rfl ?_
        refine z_seq (S' := []) rfl ?_
        refine z_goto F (tgt := 65) dX6_knot_46 (by decide) ?_
        refine z_iconst F (nI 0) dX6_knot_65 rfl ?_
        refine z_istore_n F dX6_knot_66 (Nat.le_of_ble_eq_true rfl) ?_
        refine z_leq (L' := [_, _]) rfl ?_
        exact lp1 e0 2 F2 (by omega) (by unfold knE; rw [if_neg (by omega), if_pos (by omega)]) k1 k2 0 (by omega)
      · refine z_aload_n F dX6_knot_32 rfl ?_
        refine z_mi F rfl 19 rfl (Nat.le_of_ble_eq_true rfl) rfl q1499 dX6_knot_33 ?_
        refine z_ieq (h19) ?_
        refine z_bipush F (nI 12) dX6_knot_36 rfl ?_
        refine z_icmp_neN F (by omega) (by omega) (tgt := 49) dX6_knot_38 (by decide) (fun c_38 => ?_) (fun c_38 => ?_)
        · refine z_aload_n F dX6_knot_49 rfl ?_
          refine z_mi F rfl 16 rfl (Nat.le_of_ble_eq_true rfl) rfl q1496 dX6_knot_50 ?_
          refine z_ieq (hT.2.2.2.2.2.1) ?_
          refine z_aload_n F dX6_knot_53 rfl ?_
          refine z_mi F rfl 4 rfl (Nat.le_of_ble_eq_true rfl) rfl q1484 dX6_knot_54 ?_
          refine z_ieq (h4) ?_
          refine z_icmp_ltN F (by omega) (by omega) (tgt := 65) dX6_knot_57 (by decide) (fun c_57 => ?_) (fun c_57 => ?_)
          · refine z_iconst F (nI 0) dX6_knot_65 rfl ?_
            refine z_istore_n F dX6_knot_66 (Nat.le_of_ble_eq_true rfl) ?_
            refine z_leq (L' := [_, _]) rfl ?_
            have hr := hvr (by omega)
            exact lp0 e0 (by omega) (by omega) (by omega) (by omega) (m + 1) 0 (by omega) (by omega) rfl
          · refine z_aload_n F dX6_knot_60 rfl ?_
            refine z_iconst F (nI 3) dX6_knot_61 rfl ?_
            refine z_callV F (c_mwrong F0 G A B tb z e b 3 he hS0 (by decide)) 1 rfl (lw_V q1808 q1810 qs55 q117 q1811) (by decide +kernel) ⟨Nat.le_of_ble_eq_true rfl, Nat.le_of_ble_eq_true rfl⟩ ⟨by omega, by omega⟩ [0, 1] 2 ⟨rfl, rfl, rfl, ⟨Or.inl rfl, Or.inr rfl, trivial⟩⟩ (fun h => nomatch h) (Nat.le_of_ble_eq_true rfl) ⟨⟨Or.inr trivial, Or.inl rfl, trivial⟩, rfl, rfl, rfl, Nat.le_of_ble_eq_true rfl⟩ rfl zC6 (zat_G0 rfl) rfl dX6_knot_62 (fun r_62 w_62 hp => ?_) (fun _ _ h => h.elim)
            obtain ⟨rfl, F2, rfl, k1, k2⟩ := hp
            rw [if_pos e0] at k1
            refine z_weq (w' := [zH, zG _ _ _ _]) rfl ?_
            refine z_seq (S' := []) rfl ?_
            refine z_iconst F (nI 0) dX6_knot_65 rfl ?_
            refine z_istore_n F dX6_knot_66 (Nat.le_of_ble_eq_true rfl) ?_
            refine z_leq (L' := [_, _]) rfl ?_
            have hr := hvr (by omega)
            exact lp1 e0 3 F2 (by omega) (by unfold knE; rw [if_neg (by omega), if_neg (by omega), if_pos (by omega)]) k1 k2 0 (by omega)
        · refine z_aload_n F dX6_knot_41 rfl ?_
          refine z_iconst F (nI 2) dX6_knot_42 rfl ?_
          refine z_callV F (c_mwrong F0 G A B tb z e b 2 he hS0 (by decide)) 1 rfl (lw_V q1808 q1810 qs55 q117 q1811) (by decide +kernel) ⟨Nat.le_of_ble_eq_true rfl, Nat.le_of_ble_eq_true rfl⟩ ⟨by omega, by omega⟩ [0, 1] 2 ⟨rfl, rfl, rfl, ⟨Or.inl rfl, Or.inr rfl, trivial⟩⟩ (fun h => nomatch h) (Nat.le_of_ble_eq_true rfl) ⟨⟨Or.inr trivial, Or.inl rfl, trivial⟩, rfl, rfl, rfl, Nat.le_of_ble_eq_true rfl⟩ rfl zC6 (zat_G0 rfl) rfl dX6_knot_43 (fun r_43 w_43 hp => ?_) (fun _ _ h => h.elim)
          obtain ⟨rfl, F2, rfl, k1, k2⟩ := hp
          rw [if_pos e0] at k1
          refine z_weq (w' := [zH, zG _ _ _ _]) rfl ?_
          refine z_seq (S' := []) rfl ?_
          refine z_goto F (tgt := 65) dX6_knot_46 (by decide) ?_
          refine z_iconst F (nI 0) dX6_knot_65 rfl ?_
          refine z_istore_n F dX6_knot_66 (Nat.le_of_ble_eq_true rfl) ?_
          refine z_leq (L' := [_, _]) rfl ?_
          exact lp1 e0 2 F2 (by omega) (by unfold knE; rw [if_neg (by omega), if_pos (by omega)]) k1 k2 0 (by omega)
    · refine z_aload_n F dX6_knot_16 rfl ?_
      refine z_iconst F (nI 1) dX6_knot_17 rfl ?_
      refine z_callV F (c_mwrong F0 G A B tb z e b 1 he hS0 (by decide)) 1 rfl (lw_V q1808 q1810 qs55 q117 q1811) (by decide +kernel) ⟨Nat.le_of_ble_eq_true rfl, Nat.le_of_ble_eq_true rfl⟩ ⟨by omega, by omega⟩ [0, 1] 2 ⟨rfl, rfl, rfl, ⟨Or.inl rfl, Or.inr rfl, trivial⟩⟩ (fun h => nomatch h) (Nat.le_of_ble_eq_true rfl) ⟨⟨Or.inr trivial, Or.inl rfl, trivial⟩, rfl, rfl, rfl, Nat.le_of_ble_eq_true rfl⟩ rfl zC6 (zat_G0 rfl) rfl dX6_knot_18 (fun r_18 w_18 hp => ?_) (fun _ _ h => h.elim)
      obtain ⟨rfl, F2, rfl, k1, k2⟩ := hp
      rw [if_pos e0] at k1
      refine z_weq (w' := [zH, zG _ _ _ _]) rfl ?_
      refine z_seq (S' := []) rfl ?_
      refine z_goto F (tgt := 65) dX6_knot_21 (by decide) ?_
      refine z_iconst F (nI 0) dX6_knot_65 rfl ?_
      refine z_istore_n F dX6_knot_66 (Nat.le_of_ble_eq_true rfl) ?_
      refine z_leq (L' := [_, _]) rfl ?_
      exact lp1 e0 1 F2 (by omega) (by unfold knE; rw [if_pos (by omega)]) k1 k2 0 (by omega)
  · have e0 : ¬ e = 0 := of_decide_eq_false c_4
    have ek : kn1 tb z n (e, b, l, m) = (e, b, l, m) := by unfold kn1; rw [if_pos e0]
    exact z_vret F E rfl dX6_knot_7 (by omega) (by omega) (⟨rfl, F0, G, A, rfl, by rw [ek]; exact hS0, by rw [ek]; exact h19, by rw [ek]; exact hA, frm.rf, frm.rf, frm.rf⟩)
/-- lines so far: a net laid out, or a fault -/
abbrev eS (s : dS) : Nat := match s with
  | .inl _ => 0
  | .inr e => e
theorem c_mdraw (F0 : Nat → Int32) (G : Nat → Int64) (A : Nat → Nat → Int32) (B : Nat → Nat → Int64) (tb : Nat → Nat) (z n d b x y : Nat) (s : dS) (hs : dok n d s) (hn : n ≤ 24) (hd : d ≤ 8) (hx : x < n) (hy : y < n) (hxy : x ≠ y) (hS : RS tb z F0 G (eS s) b) (h5 : F0 5 = nI d) (hA : ∀ f, s = .inl f → ∀ k, k < 24 → A 6 k = f k) : zCtr yX6_drawLine cX6_drawLine 3 none 1 0 0 [zr 1 0, zi (nI x), zi (nI y)] [zH, zG F0 G A B] (fun r w => r = none ∧ ∃ F' A', w = [zH, zG F' G A' B] ∧ RS tb z F' G (eS (dj d s x y)) b ∧ (∀ f, dj d s x y = .inl f → ∀ k, k < 24 → A' 6 k = f k) ∧ frm [9, 10] F0 F' ∧ frm [6] A A') zNx := by
  refine z_start (by decide) [some (zr 1 0), some (zi (nI x)), some (zi (nI y))] rfl (fun _ => Nat.le_of_ble_eq_true rfl) (fun _ => rfl) (fun X F E hno hin => ?_)
  have hS0 := hS
  obtain ⟨hT, h9, h10⟩ := hS
  rcases s with f | e1
  · have hf := hA f rfl
    have p1 := pc32_le (f x)
    have p2 := pc32_le (f y)
    refine z_aload_n F dX6_drawLine_0 rfl ?_
    refine z_callV F (c_misGood F0 G A B 0 (by omega) h9) 0 rfl (lw_V q1804 q1806 qs54 q117 q1807) (by decide +kernel) ⟨Nat.le_of_ble_eq_true rfl, Nat.le_of_ble_eq_true rfl⟩ ⟨by omega, by omega⟩ [0, 1] 2 ⟨rfl, rfl, rfl, ⟨Or.inl rfl, Or.inr rfl, trivial⟩⟩ (fun h => nomatch h) (Nat.le_of_ble_eq_true rfl) ⟨⟨Or.inr trivial, Or.inl rfl, trivial⟩, rfl, rfl, rfl, Nat.le_of_ble_eq_true rfl⟩ rfl zC6 (zat_G0 rfl) rfl dX6_drawLine_1 (fun r_1 w_1 hp => ?_) (fun _ _ h => h.elim)
    obtain ⟨rfl, rfl⟩ := hp
    refine z_weq (w' := [zH, zG _ _ _ _]) rfl ?_
    refine z_seq (S' := zi _ :: _) rfl ?_
    refine z_if_neB F (tgt := 8) dX6_drawLine_4 (by decide) (fun c_4 => ?_) (fun c_4 => ?_)
    · refine z_aload_n F dX6_drawLine_8 rfl ?_
      refine z_iload_n F dX6_drawLine_9 rfl ?_
      refine z_iload_n F dX6_drawLine_10 rfl ?_
      refine z_callV F (c_isJoined F0 G A B x y (by omega) (by omega)) 2 rfl (lw_V q1748 q1750 qs46 q117 q1751) (by decide +kernel) ⟨Nat.le_of_ble_eq_true rfl, Nat.le_of_ble_eq_true rfl⟩ ⟨by omega, by omega⟩ [0, 1] 2 ⟨rfl, rfl, rfl, ⟨Or.inl rfl, Or.inr rfl, trivial⟩⟩ (fun h => nomatch h) (Nat.le_of_ble_eq_true rfl) ⟨⟨Or.inr trivial, Or.inl rfl, trivial⟩, rfl, rfl, rfl, Nat.le_of_ble_eq_true rfl⟩ rfl zC6 (zat_G0 rfl) rfl dX6_drawLine_11 (fun r_11 w_11 hp => ?_) (fun _ _ h => h.elim)
      obtain ⟨rfl, rfl⟩ := hp
      rw [hf x (by omega)]
      refine z_weq (w' := [zH, zG _ _ _ _]) rfl ?_
      refine z_seq (S' := zi _ :: _) rfl ?_
      refine z_if_eqB F (tgt := 25) dX6_drawLine_14 (by decide) (fun c_14 => ?_) (fun c_14 => ?_)
      · refine z_aload_n F dX6_drawLine_25 rfl ?_
        refine z_ma F rfl 6 rfl (Nat.le_of_ble_eq_true rfl) rfl q1486 dX6_drawLine_26 ?_
        refine z_iload_n F dX6_drawLine_29 rfl ?_
        refine z_ialdGN F rfl rfl (Nat.le_of_ble_eq_true rfl) (by omega) rfl dX6_drawLine_30 ?_
        refine z_callS F (c_bits (A 6 x)) 1 rfl (lw_S q1752 q1753 q117 q1754) (by decide +kernel) ⟨Nat.le_of_ble_eq_true rfl, Nat.le_of_ble_eq_true rfl⟩ ⟨by omega, by omega⟩ [0] 2 ⟨rfl, rfl, rfl, ⟨Or.inl rfl, trivial⟩⟩ (fun h => nomatch h) (Nat.le_of_ble_eq_true rfl) ⟨⟨Or.inr trivial, Or.inr trivial, trivial⟩, rfl, rfl, rfl, Nat.le_of_ble_eq_true rfl⟩ rfl rfl dX6_drawLine_31 (fun r_31 w_31 hp => ?_) (fun _ _ h => h.elim)
        obtain ⟨rfl, rfl⟩ := hp
        rw [hf x (by omega)]
        refine z_weq (w' := [zH, zG _ _ _ _]) rfl ?_
        refine z_seq (S' := zi _ :: _) rfl ?_
        refine z_aload_n F dX6_drawLine_34 rfl ?_
        refine z_mi F rfl 5 rfl (Nat.le_of_ble_eq_true rfl) rfl q1485 dX6_drawLine_35 ?_
        refine z_ieq (h5) ?_
        refine z_icmp_geN F (by omega) (by omega) (tgt := 57) dX6_drawLine_38 (by decide) (fun c_38 => ?_) (fun c_38 => ?_)
        · refine z_aload_n F dX6_drawLine_57 rfl ?_
          refine z_bipush F (nI 6) dX6_drawLine_58 rfl ?_
          refine z_callV F (c_mwrong F0 G A B tb z 0 b 6 (by omega) hS0 (by decide)) 1 rfl (lw_V q1808 q1810 qs55 q117 q1811) (by decide +kernel) ⟨Nat.le_of_ble_eq_true rfl, Nat.le_of_ble_eq_true rfl⟩ ⟨by omega, by omega⟩ [0, 1] 2 ⟨rfl, rfl, rfl, ⟨Or.inl rfl, Or.inr rfl, trivial⟩⟩ (fun h => nomatch h) (Nat.le_of_ble_eq_true rfl) ⟨⟨Or.inr trivial, Or.inl rfl, trivial⟩, rfl, rfl, rfl, Nat.le_of_ble_eq_true rfl⟩ rfl zC6 (zat_G0 rfl) rfl dX6_drawLine_60 (fun r_60 w_60 hp => ?_) (fun _ _ h => h.elim)
          obtain ⟨rfl, F2, rfl, k1, k2⟩ := hp
          rw [if_pos rfl] at k1
          refine z_weq (w' := [zH, zG _ _ _ _]) rfl ?_
          refine z_seq (S' := []) rfl ?_
          refine z_goto F (tgt := 72) dX6_drawLine_63 (by decide) ?_
          exact z_vret F E rfl dX6_drawLine_72 (by omega) (by omega) (⟨rfl, F2, A, rfl, by rw [show dj d (.inl f) x y = .inr 6 from by unfold dj; dsimp only; rw [if_neg (by rw [c_14]; decide), if_neg (fun w => by unfold mayJ at w; simp only [Bool.and_eq_true, decide_eq_true_eq] at w; omega)]]; exact k1, fun g q => (by rw [show dj d (.inl f) x y = .inr 6 from by unfold dj; dsimp only; rw [if_neg (by rw [c_14]; decide), if_neg (fun w => by unfold mayJ at w; simp only [Bool.and_eq_true, decide_eq_true_eq] at w; omega)]] at q; cases q), k2, frm.rf⟩)
        · refine z_aload_n F dX6_drawLine_41 rfl ?_
          refine z_ma F rfl 6 rfl (Nat.le_of_ble_eq_true rfl) rfl q1486 dX6_drawLine_42 ?_
          refine z_iload_n F dX6_drawLine_45 rfl ?_
          refine z_ialdGN F rfl rfl (Nat.le_of_ble_eq_true rfl) (by omega) rfl dX6_drawLine_46 ?_
          refine z_callS F (c_bits (A 6 y)) 1 rfl (lw_S q1752 q1753 q117 q1754) (by decide +kernel) ⟨Nat.le_of_ble_eq_true rfl, Nat.le_of_ble_eq_true rfl⟩ ⟨by omega, by omega⟩ [0] 2 ⟨rfl, rfl, rfl, ⟨Or.inl rfl, trivial⟩⟩ (fun h => nomatch h) (Nat.le_of_ble_eq_true rfl) ⟨⟨Or.inr trivial, Or.inr trivial, trivial⟩, rfl, rfl, rfl, Nat.le_of_ble_eq_true rfl⟩ rfl rfl dX6_drawLine_47 (fun r_47 w_47 hp => ?_) (fun _ _ h => h.elim)
          obtain ⟨rfl, rfl⟩ := hp
          rw [hf y (by omega)]
          refine z_weq (w' := [zH, zG _ _ _ _]) rfl ?_
          refine z_seq (S' := zi _ :: _) rfl ?_
          refine z_aload_n F dX6_drawLine_50 rfl ?_
          refine z_mi F rfl 5 rfl (Nat.le_of_ble_eq_true rfl) rfl q1485 dX6_drawLine_51 ?_
          refine z_ieq (h5) ?_
          refine z_icmp_ltN F (by omega) (by omega) (tgt := 66) dX6_drawLine_54 (by decide) (fun c_54 => ?_) (fun c_54 => ?_)
          · refine z_aload_n F dX6_drawLine_66 rfl ?_
            refine z_iload_n F dX6_drawLine_67 rfl ?_
            refine z_iload_n F dX6_drawLine_68 rfl ?_
            refine z_callV F (c_joins F0 G A B x y (by omega) (by omega)) 2 rfl (lw_V q1755 q1757 qs47 q117 q1758) (by decide +kernel) ⟨Nat.le_of_ble_eq_true rfl, Nat.le_of_ble_eq_true rfl⟩ ⟨by omega, by omega⟩ [0, 1] 2 ⟨rfl, rfl, rfl, ⟨Or.inl rfl, Or.inr rfl, trivial⟩⟩ (fun h => nomatch h) (Nat.le_of_ble_eq_true rfl) ⟨⟨Or.inr trivial, Or.inl rfl, trivial⟩, rfl, rfl, rfl, Nat.le_of_ble_eq_true rfl⟩ rfl zC6 (zat_G0 rfl) rfl dX6_drawLine_69 (fun r_69 w_69 hp => ?_) (fun _ _ h => h.elim)
            obtain ⟨rfl, rfl⟩ := hp
            refine z_weq (w' := [zH, zG _ _ _ _]) rfl ?_
            refine z_seq (S' := []) rfl ?_
            exact z_vret F E rfl dX6_drawLine_72 (by omega) (by omega) (⟨rfl, F0, _, rfl, by rw [show dj d (.inl f) x y = .inl (jn f x y) from by unfold dj; dsimp only; rw [if_neg (by rw [c_14]; decide), if_pos (by unfold mayJ; rw [decide_eq_true hxy, c_14, decide_eq_true c_38, decide_eq_true c_54]; rfl)]]; exact hS0, fun g q => by
  rw [show dj d (.inl f) x y = .inl (jn f x y) from by unfold dj; dsimp only; rw [if_neg (by rw [c_14]; decide), if_pos (by unfold mayJ; rw [decide_eq_true hxy, c_14, decide_eq_true c_38, decide_eq_true c_54]; rfl)]] at q
  cases q
  intro k hk
  rw [fA_at]
  exact jn_cong hf (by omega) (by omega) hk, frm.rf, frm_fA frm.rf (by decide)⟩)
          · refine z_aload_n F dX6_drawLine_57 rfl ?_
            refine z_bipush F (nI 6) dX6_drawLine_58 rfl ?_
            refine z_callV F (c_mwrong F0 G A B tb z 0 b 6 (by omega) hS0 (by decide)) 1 rfl (lw_V q1808 q1810 qs55 q117 q1811) (by decide +kernel) ⟨Nat.le_of_ble_eq_true rfl, Nat.le_of_ble_eq_true rfl⟩ ⟨by omega, by omega⟩ [0, 1] 2 ⟨rfl, rfl, rfl, ⟨Or.inl rfl, Or.inr rfl, trivial⟩⟩ (fun h => nomatch h) (Nat.le_of_ble_eq_true rfl) ⟨⟨Or.inr trivial, Or.inl rfl, trivial⟩, rfl, rfl, rfl, Nat.le_of_ble_eq_true rfl⟩ rfl zC6 (zat_G0 rfl) rfl dX6_drawLine_60 (fun r_60 w_60 hp => ?_) (fun _ _ h => h.elim)
            obtain ⟨rfl, F2, rfl, k1, k2⟩ := hp
            rw [if_pos rfl] at k1
            refine z_weq (w' := [zH, zG _ _ _ _]) rfl ?_
            refine z_seq (S' := []) rfl ?_
            refine z_goto F (tgt := 72) dX6_drawLine_63 (by decide) ?_
            exact z_vret F E rfl dX6_drawLine_72 (by omega) (by omega) (⟨rfl, F2, A, rfl, by rw [show dj d (.inl f) x y = .inr 6 from by unfold dj; dsimp only; rw [if_neg (by rw [c_14]; decide), if_neg (fun w => by unfold mayJ at w; simp only [Bool.and_eq_true, decide_eq_true_eq] at w; omega)]]; exact k1, fun g q => (by rw [show dj d (.inl f) x y = .inr 6 from by unfold dj; dsimp only; rw [if_neg (by rw [c_14]; decide), if_neg (fun w => by unfold mayJ at w; simp only [Bool.and_eq_true, decide_eq_true_eq] at w; omega)]] at q; cases q), k2, frm.rf⟩)
      · have ed : dj d (.inl f) x y = .inr 5 := by unfold dj; exact if_pos c_14
        refine z_aload_n F dX6_drawLine_17 rfl ?_
        refine z_iconst F (nI 5) dX6_drawLine_18 rfl ?_
        refine z_callV F (c_mwrong F0 G A B tb z 0 b 5 (by omega) hS0 (by decide)) 1 rfl (lw_V q1808 q1810 qs55 q117 q1811) (by decide +kernel) ⟨Nat.le_of_ble_eq_true rfl, Nat.le_of_ble_eq_true rfl⟩ ⟨by omega, by omega⟩ [0, 1] 2 ⟨rfl, rfl, rfl, ⟨Or.inl rfl, Or.inr rfl, trivial⟩⟩ (fun h => nomatch h) (Nat.le_of_ble_eq_true rfl) ⟨⟨Or.inr trivial, Or.inl rfl, trivial⟩, rfl, rfl, rfl, Nat.le_of_ble_eq_true rfl⟩ rfl zC6 (zat_G0 rfl) rfl dX6_drawLine_19 (fun r_19 w_19 hp => ?_) (fun _ _ h => h.elim)
        obtain ⟨rfl, F2, rfl, k1, k2⟩ := hp
        rw [if_pos rfl] at k1
        refine z_weq (w' := [zH, zG _ _ _ _]) rfl ?_
        refine z_seq (S' := []) rfl ?_
        refine z_goto F (tgt := 72) dX6_drawLine_22 (by decide) ?_
        exact z_vret F E rfl dX6_drawLine_72 (by omega) (by omega) (⟨rfl, F2, A, rfl, by rw [ed]; exact k1, fun g q => (by rw [ed] at q; cases q), k2, frm.rf⟩)
    · cases c_4
  · have he := hs.2 e1 rfl
    refine z_aload_n F dX6_drawLine_0 rfl ?_
    refine z_callV F (c_misGood F0 G A B e1 (by omega) h9) 0 rfl (lw_V q1804 q1806 qs54 q117 q1807) (by decide +kernel) ⟨Nat.le_of_ble_eq_true rfl, Nat.le_of_ble_eq_true rfl⟩ ⟨by omega, by omega⟩ [0, 1] 2 ⟨rfl, rfl, rfl, ⟨Or.inl rfl, Or.inr rfl, trivial⟩⟩ (fun h => nomatch h) (Nat.le_of_ble_eq_true rfl) ⟨⟨Or.inr trivial, Or.inl rfl, trivial⟩, rfl, rfl, rfl, Nat.le_of_ble_eq_true rfl⟩ rfl zC6 (zat_G0 rfl) rfl dX6_drawLine_1 (fun r_1 w_1 hp => ?_) (fun _ _ h => h.elim)
    obtain ⟨rfl, rfl⟩ := hp
    refine z_weq (w' := [zH, zG _ _ _ _]) rfl ?_
    refine z_seq (S' := zi _ :: _) rfl ?_
    refine z_if_neB F (tgt := 8) dX6_drawLine_4 (by decide) (fun c_4 => ?_) (fun c_4 => ?_)
    · exact absurd (of_decide_eq_true c_4) (by omega)
    · exact z_vret F E rfl dX6_drawLine_7 (by omega) (by omega) (⟨rfl, F0, A, rfl, hS0, fun g q => (by cases q), frm.rf, frm.rf⟩)
end C9yv
end
section
/-! read: the reference's clauses -/
section C9yw
abbrev LSt (tb : Nat → Nat) (z : Nat) (F0 : Nat → Int32) (G0 : Nat → Int64) (A0 : Nat → Nat → Int32) (m : Nat) (l : Nat → Nat) (b : Nat) (F1 : Nat → Int32) (G1 : Nat → Int64) (A1 : Nat → Nat → Int32) (s : dS) : Prop := RS tb z F1 G1 (eS s) b ∧ F1 19 = nI m ∧ (∀ k, k < m → A1 18 k = nI (l k)) ∧ (∀ g, s = .inl g → ∀ k, k < 24 → A1 6 k = g k) ∧ frm LF F0 F1 ∧ frm [17] G0 G1 ∧ frm [6, 18] A0 A1
theorem eS_le {n d : Nat} {s : dS} (h : dok n d s) : eS s ≤ 6 := by
  rcases s with f | e
  · exact Nat.zero_le _
  · have := h.2 e rfl
    show e ≤ 6
    omega
theorem LSt_dj {tb : Nat → Nat} {z : Nat} {F0 F1 F2 : Nat → Int32} {G0 G1 : Nat → Int64} {A0 A1 A2 : Nat → Nat → Int32} {m b x y d : Nat} {l : Nat → Nat} {s : dS} (h : LSt tb z F0 G0 A0 m l b F1 G1 A1 s) (k1 : RS tb z F2 G1 (eS (dj d s x y)) b) (k2 : ∀ f, dj d s x y = .inl f → ∀ k, k < 24 → A2 6 k = f k) (k3 : frm [9, 10] F1 F2) (k4 : frm [6] A1 A2) : LSt tb z F0 G0 A0 m l b F2 G1 A2 (dj d s x y) :=
  ⟨k1, (k3.at 19 rfl).trans h.2.1, fun k hk => by rw [k4.at 18 rfl]; exact h.2.2.1 k hk, k2, h.2.2.2.2.1.tr k3 (by decide) (by decide), h.2.2.2.2.2.1, h.2.2.2.2.2.2.tr k4 (by decide) (by decide)⟩
theorem c_mclause (F0 : Nat → Int32) (G0 : Nat → Int64) (A0 : Nat → Nat → Int32) (B : Nat → Nat → Int64) (tb : Nat → Nat) (z n d c b : Nat) (f : Nat → Int32) (hz : z ≤ 400) (hb : b ≤ z) (htb : ∀ i, tb i < 256) (ht : ∀ i, i < z → A0 7 i = nI (tb i)) (hS : RS tb z F0 G0 0 b) (h4 : F0 4 = nI n) (h5 : F0 5 = nI d) (hf : nok n d f) (hA : ∀ k, k < 24 → A0 6 k = f k) (hc : c ≤ 20) : zCtr yX6_clause cX6_clause 5 none 3 0 0 [zr 1 0, zi (nI c)] [zH, zG F0 G0 A0 B] (fun r w => r = none ∧ ∃ F' G' A', w = [zH, zG F' G' A' B] ∧ RS tb z F' G' (clS tb z n d f c b).1 (clS tb z n d f c b).2.1 ∧ ((clS tb z n d f c b).1 = 0 → ∀ k, k < 24 → A' 6 k = (clS tb z n d f c b).2.2 k) ∧ frm LF F0 F' ∧ frm [17] G0 G' ∧ frm [6, 18] A0 A') zNx := by
  refine z_start (by decide) [some (zr 1 0), some (zi (nI c)), none, none, none] rfl (fun _ => Nat.le_of_ble_eq_true rfl) (fun _ => rfl) (fun X F E hno hin => ?_)
  have hn := hf.n24
  have hd := hf.d8
  -- a fault at once: the first word, or too many clauses
  have at19 : ∀ (e : Nat) (v : Int32) (F1 : Nat → Int32), (e = 0 ∨ e = 1) → (e = 0 → c = 20) → clS tb z n d f c b = (if e = 0 then 2 else 1, b, f) → RS tb z F1 G0 e b → frm [9, 10] F0 F1 → Z X [some (zr 1 0), some (zi (nI c)), some (zi v), none, none] [] [zH, zG F1 G0 A0 B] 0 0 19 := by
    intro e v F1 he hec hcl hS1 hF
    have fin : ∀ (F2 : Nat → Int32) (e2 : Nat), e2 = (if e = 0 then 2 else 1) → RS tb z F2 G0 e2 b → frm [9, 10] F0 F2 → Z X [some (zr 1 0), none, none, none, none] [] [zH, zG F2 G0 A0 B] 0 0 30 := by
      intro F2 e2 h2 hS2 hF2
      have hne : e2 ≠ 0 := by rw [h2]; split <;> omega
      have hle : e2 ≤ 6 := by rw [h2]; split <;> omega
      refine z_aload_n F dX6_clause_30 rfl ?_
      refine z_callV F (c_misGood F2 G0 A0 B e2 hle hS2.2.1) 0 rfl (lw_V q1804 q1806 qs54 q117 q1807) (by decide +kernel) ⟨Nat.le_of_ble_eq_true rfl, Nat.le_of_ble_eq_true rfl⟩ ⟨by omega, by omega⟩ [0, 1] 2 ⟨rfl, rfl, rfl, ⟨Or.inl rfl, Or.inr rfl, trivial⟩⟩ (fun h => nomatch h) (Nat.le_of_ble_eq_true rfl) ⟨⟨Or.inr trivial, Or.inl rfl, trivial⟩, rfl, rfl, rfl, Nat.le_of_ble_eq_true rfl⟩ rfl zC6 (zat_G0 rfl) rfl dX6_clause_31 (fun r_31 w_31 hp => ?_) (fun _ _ h => h.elim)
      obtain ⟨rfl, rfl⟩ := hp
      refine z_weq (w' := [zH, zG _ _ _ _]) rfl ?_
      refine z_seq (S' := zi _ :: _) rfl ?_
      refine z_if_neB F (tgt := 38) dX6_clause_34 (by decide) (fun c_34 => ?_) (fun c_34 => ?_)
      · exact absurd (of_decide_eq_true c_34) hne
      · exact z_vret F E rfl dX6_clause_37 (by omega) (by omega) (⟨rfl, F2, G0, A0, rfl, by rw [hcl, ← h2]; exact hS2, fun w => by rw [hcl, ← h2] at w; exact absurd w hne, hF2.to (by decide), frm.rf, frm.rf⟩)
    refine z_iload_n F dX6_clause_19 rfl ?_
    refine z_bipush F (nI 20) dX6_clause_20 rfl ?_
    refine z_icmp_neN F (by omega) (by omega) (tgt := 30) dX6_clause_22 (by decide) (fun c_22 => ?_) (fun c_22 => ?_)
    · have h1 : e = 1 := he.resolve_left (fun q => c_22 (hec q))
      refine z_loc _ ?_ (fin F1 e (by rw [h1]; rfl) hS1 hF)
      exact ⟨rfl, trivial⟩
    · refine z_aload_n F dX6_clause_25 rfl ?_
      refine z_iconst F (nI 2) dX6_clause_26 rfl ?_
      refine z_callV F (c_mwrong F1 G0 A0 B tb z e b 2 (by omega) hS1 (by decide)) 1 rfl (lw_V q1808 q1810 qs55 q117 q1811) (by decide +kernel) ⟨Nat.le_of_ble_eq_true rfl, Nat.le_of_ble_eq_true rfl⟩ ⟨by omega, by omega⟩ [0, 1] 2 ⟨rfl, rfl, rfl, ⟨Or.inl rfl, Or.inr rfl, trivial⟩⟩ (fun h => nomatch h) (Nat.le_of_ble_eq_true rfl) ⟨⟨Or.inr trivial, Or.inl rfl, trivial⟩, rfl, rfl, rfl, Nat.le_of_ble_eq_true rfl⟩ rfl zC6 (zat_G0 rfl) rfl dX6_clause_27 (fun r_27 w_27 hp => ?_) (fun _ _ h => h.elim)
      obtain ⟨rfl, F2, rfl, k1, k2⟩ := hp
      refine z_weq (w' := [zH, zG _ _ _ _]) rfl ?_
      refine z_seq (S' := []) rfl ?_
      refine z_loc _ ?_ (fin F2 _ (by rcases he with q | q <;> rw [q] <;> rfl) k1 (hF.tr k2 (by decide) (by decide)))
      exact ⟨rfl, trivial⟩
  rcases hk : kwI tb z b with _ | i
  · have ekw : kwR tb z b = -1 := by unfold kwR; rw [hk]; rfl
    have hcl : clS tb z n d f c b = (1, b, f) := by unfold clS; rw [hk]
    refine z_aload_n F dX6_clause_0 rfl ?_
    refine z_callV F (c_mknown F0 G0 A0 B tb z b hz hb hS.1) 0 rfl (lw_V q1793 q1795 qs52 q117 q1796) (by decide +kernel) ⟨Nat.le_of_ble_eq_true rfl, Nat.le_of_ble_eq_true rfl⟩ ⟨by omega, by omega⟩ [0, 1] 2 ⟨rfl, rfl, rfl, ⟨Or.inl rfl, Or.inr rfl, trivial⟩⟩ (fun h => nomatch h) (Nat.le_of_ble_eq_true rfl) ⟨⟨Or.inr trivial, Or.inl rfl, trivial⟩, rfl, rfl, rfl, Nat.le_of_ble_eq_true rfl⟩ rfl zC6 (zat_G0 rfl) rfl dX6_clause_1 (fun r_1 w_1 hp => ?_) (fun _ _ h => h.elim)
    obtain ⟨rfl, rfl⟩ := hp
    rw [ekw]
    refine z_weq (w' := [zH, zG _ _ _ _]) rfl ?_
    refine z_seq (S' := zi _ :: _) rfl ?_
    refine z_istore_n F dX6_clause_4 (Nat.le_of_ble_eq_true rfl) ?_
    refine z_leq (L' := [_, _, _, _, _]) rfl ?_
    refine z_iload_n F dX6_clause_5 rfl ?_
    refine z_if_lt F (tgt := 14) dX6_clause_6 (by decide) (fun c_6 => ?_) (fun c_6 => ?_)
    · refine z_aload_n F dX6_clause_14 rfl ?_
      refine z_iconst F (nI 1) dX6_clause_15 rfl ?_
      refine z_callV F (c_mwrong F0 G0 A0 B tb z 0 b 1 (by omega) hS (by decide)) 1 rfl (lw_V q1808 q1810 qs55 q117 q1811) (by decide +kernel) ⟨Nat.le_of_ble_eq_true rfl, Nat.le_of_ble_eq_true rfl⟩ ⟨by omega, by omega⟩ [0, 1] 2 ⟨rfl, rfl, rfl, ⟨Or.inl rfl, Or.inr rfl, trivial⟩⟩ (fun h => nomatch h) (Nat.le_of_ble_eq_true rfl) ⟨⟨Or.inr trivial, Or.inl rfl, trivial⟩, rfl, rfl, rfl, Nat.le_of_ble_eq_true rfl⟩ rfl zC6 (zat_G0 rfl) rfl dX6_clause_16 (fun r_16 w_16 hp => ?_) (fun _ _ h => h.elim)
      obtain ⟨rfl, F2, rfl, k1, k2⟩ := hp
      refine z_weq (w' := [zH, zG _ _ _ _]) rfl ?_
      refine z_seq (S' := []) rfl ?_
      exact at19 1 _ F2 (Or.inr rfl) (fun q => absurd q (by omega)) (by rw [hcl]; rfl) k1 k2
    · exact absurd (by decide) c_6
  have hi7 := (kwI_some.mp hk).1
  have ekw : kwR tb z b = nI i := by unfold kwR; rw [hk]; rfl
  by_cases hi4 : 4 < i
  · have hcl : clS tb z n d f c b = (1, b, f) := by unfold clS; rw [hk]; exact if_pos hi4
    refine z_aload_n F dX6_clause_0 rfl ?_
    refine z_callV F (c_mknown F0 G0 A0 B tb z b hz hb hS.1) 0 rfl (lw_V q1793 q1795 qs52 q117 q1796) (by decide +kernel) ⟨Nat.le_of_ble_eq_true rfl, Nat.le_of_ble_eq_true rfl⟩ ⟨by omega, by omega⟩ [0, 1] 2 ⟨rfl, rfl, rfl, ⟨Or.inl rfl, Or.inr rfl, trivial⟩⟩ (fun h => nomatch h) (Nat.le_of_ble_eq_true rfl) ⟨⟨Or.inr trivial, Or.inl rfl, trivial⟩, rfl, rfl, rfl, Nat.le_of_ble_eq_true rfl⟩ rfl zC6 (zat_G0 rfl) rfl dX6_clause_1 (fun r_1 w_1 hp => ?_) (fun _ _ h => h.elim)
    obtain ⟨rfl, rfl⟩ := hp
    rw [ekw]
    refine z_weq (w' := [zH, zG _ _ _ _]) rfl ?_
    refine z_seq (S' := zi _ :: _) rfl ?_
    refine z_istore_n F dX6_clause_4 (Nat.le_of_ble_eq_true rfl) ?_
    refine z_leq (L' := [_, _, _, _, _]) rfl ?_
    refine z_iload_n F dX6_clause_5 rfl ?_
    refine z_if_ltN F (by omega) (tgt := 14) dX6_clause_6 (by decide) (fun c_6 => ?_) (fun c_6 => ?_)
    · exact absurd c_6 (by omega)
    · refine z_iload_n F dX6_clause_9 rfl ?_
      refine z_iconst F (nI 4) dX6_clause_10 rfl ?_
      refine z_icmp_leN F (by omega) (by omega) (tgt := 19) dX6_clause_11 (by decide) (fun c_11 => ?_) (fun c_11 => ?_)
      · exact absurd c_11 (by omega)
      · refine z_aload_n F dX6_clause_14 rfl ?_
        refine z_iconst F (nI 1) dX6_clause_15 rfl ?_
        refine z_callV F (c_mwrong F0 G0 A0 B tb z 0 b 1 (by omega) hS (by decide)) 1 rfl (lw_V q1808 q1810 qs55 q117 q1811) (by decide +kernel) ⟨Nat.le_of_ble_eq_true rfl, Nat.le_of_ble_eq_true rfl⟩ ⟨by omega, by omega⟩ [0, 1] 2 ⟨rfl, rfl, rfl, ⟨Or.inl rfl, Or.inr rfl, trivial⟩⟩ (fun h => nomatch h) (Nat.le_of_ble_eq_true rfl) ⟨⟨Or.inr trivial, Or.inl rfl, trivial⟩, rfl, rfl, rfl, Nat.le_of_ble_eq_true rfl⟩ rfl zC6 (zat_G0 rfl) rfl dX6_clause_16 (fun r_16 w_16 hp => ?_) (fun _ _ h => h.elim)
        obtain ⟨rfl, F2, rfl, k1, k2⟩ := hp
        refine z_weq (w' := [zH, zG _ _ _ _]) rfl ?_
        refine z_seq (S' := []) rfl ?_
        exact at19 1 _ F2 (Or.inr rfl) (fun q => absurd q (by omega)) (by rw [hcl]; rfl) k1 k2
  by_cases hc20 : c = 20
  · have hcl : clS tb z n d f c b = (2, b, f) := by unfold clS; rw [hk]; exact (if_neg hi4).trans (if_pos hc20)
    refine z_aload_n F dX6_clause_0 rfl ?_
    refine z_callV F (c_mknown F0 G0 A0 B tb z b hz hb hS.1) 0 rfl (lw_V q1793 q1795 qs52 q117 q1796) (by decide +kernel) ⟨Nat.le_of_ble_eq_true rfl, Nat.le_of_ble_eq_true rfl⟩ ⟨by omega, by omega⟩ [0, 1] 2 ⟨rfl, rfl, rfl, ⟨Or.inl rfl, Or.inr rfl, trivial⟩⟩ (fun h => nomatch h) (Nat.le_of_ble_eq_true rfl) ⟨⟨Or.inr trivial, Or.inl rfl, trivial⟩, rfl, rfl, rfl, Nat.le_of_ble_eq_true rfl⟩ rfl zC6 (zat_G0 rfl) rfl dX6_clause_1 (fun r_1 w_1 hp => ?_) (fun _ _ h => h.elim)
    obtain ⟨rfl, rfl⟩ := hp
    rw [ekw]
    refine z_weq (w' := [zH, zG _ _ _ _]) rfl ?_
    refine z_seq (S' := zi _ :: _) rfl ?_
    refine z_istore_n F dX6_clause_4 (Nat.le_of_ble_eq_true rfl) ?_
    refine z_leq (L' := [_, _, _, _, _]) rfl ?_
    refine z_iload_n F dX6_clause_5 rfl ?_
    refine z_if_ltN F (by omega) (tgt := 14) dX6_clause_6 (by decide) (fun c_6 => ?_) (fun c_6 => ?_)
    · exact absurd c_6 (by omega)
    · refine z_iload_n F dX6_clause_9 rfl ?_
      refine z_iconst F (nI 4) dX6_clause_10 rfl ?_
      refine z_icmp_leN F (by omega) (by omega) (tgt := 19) dX6_clause_11 (by decide) (fun c_11 => ?_) (fun c_11 => ?_)
      · exact at19 0 _ F0 (Or.inl rfl) (fun _ => hc20) (by rw [hcl]; rfl) hS frm.rf
      · exact absurd c_11 (by omega)
  have hcl : clS tb z n d f c b = clE tb z d i f (clK tb z n i b) := by unfold clS; rw [hk]; exact (if_neg hi4).trans (if_neg hc20)
  obtain ⟨ck1, ck2, ck3⟩ := clK_ok (tb := tb) (z := z) (n := n) (i := i) hb
  have ck4 := clK_2 (tb := tb) (z := z) (n := n) (i := i) (b := b)
  -- the lines
  have lines : ∀ (b1 m : Nat) (l : Nat → Nat), clK tb z n i b = (0, b1, l, m) → kd tb z b1 = 3 → ∀ (F1 : Nat → Int32) (G1 : Nat → Int64) (A1 : Nat → Nat → Int32), LSt tb z F0 G0 A0 m l b1 F1 G1 A1 (.inl f) → Z X [some (zr 1 0), none, some (zi (nI i)), none, none] [] [zH, zG F1 G1 A1 B] 0 0 110 := by
    intro b1 m l hcK hkd3 F1 G1 A1 hL0
    rw [hcK] at ck1 ck2 ck4 hcl
    have hb1 : b1 ≤ z := ck1
    have hl : lok n l m := ck2
    have hm2 : 2 ≤ m := ck4 rfl
    have hm12 := hl.2.2
    have hcl2 : clS tb z n d f c b = (match lnR d i l m f with | .inr e => (e, b1, f) | .inl g => (0, nb tb z b1, g)) := by
      rw [hcl]; unfold clE; rw [if_neg (fun w => w rfl), if_neg (by show ¬ kd tb z b1 ≠ 3; omega)]
    have hok := lnR_ok (i := i) hf hl hm2
    have hne : ∀ x y, x < m → y < m → x ≠ y → l x ≠ l y := fun x y h1 h2 h3 h4 => h3 (hl.2.1 x y h1 h2 h4)
    have e322 : ∀ (s : dS) (F2 : Nat → Int32) (G2 : Nat → Int64) (A2 : Nat → Nat → Int32), s = lnR d i l m f → LSt tb z F0 G0 A0 m l b1 F2 G2 A2 s → Z X [some (zr 1 0), none, some (zi (nI i)), none, none] [] [zH, zG F2 G2 A2 B] 0 0 322 := by
      intro s F2 G2 A2 hs hL
      rw [← hs] at hcl2 hok
      obtain ⟨k1, k2, k3, k4, k5, k6, k7⟩ := hL
      rcases s with g | e
      · skip
        refine z_aload_n F dX6_clause_322 rfl ?_
        refine z_callV F (c_misGood F2 G2 A2 B 0 (by omega) k1.2.1) 0 rfl (lw_V q1804 q1806 qs54 q117 q1807) (by decide +kernel) ⟨Nat.le_of_ble_eq_true rfl, Nat.le_of_ble_eq_true rfl⟩ ⟨by omega, by omega⟩ [0, 1] 2 ⟨rfl, rfl, rfl, ⟨Or.inl rfl, Or.inr rfl, trivial⟩⟩ (fun h => nomatch h) (Nat.le_of_ble_eq_true rfl) ⟨⟨Or.inr trivial, Or.inl rfl, trivial⟩, rfl, rfl, rfl, Nat.le_of_ble_eq_true rfl⟩ rfl zC6 (zat_G0 rfl) rfl dX6_clause_323 (fun r_323 w_323 hp => ?_) (fun _ _ h => h.elim)
        obtain ⟨rfl, rfl⟩ := hp
        refine z_weq (w' := [zH, zG _ _ _ _]) rfl ?_
        refine z_seq (S' := zi _ :: _) rfl ?_
        refine z_if_eqB F (tgt := 333) dX6_clause_326 (by decide) (fun c_326 => ?_) (fun c_326 => ?_)
        · cases c_326
        · refine z_aload_n F dX6_clause_329 rfl ?_
          refine z_callV F (c_mrdGo F2 G2 A2 B tb z (en tb z b1) hz ((en_ge tb z b1).2 hb1) htb k1.1.1 k1.1.2.1 (fun i hi => by rw [k7.at 7 rfl]; exact ht i hi)) 0 rfl (lw_V q1779 q1781 qs50 q117 q1782) (by decide +kernel) ⟨Nat.le_of_ble_eq_true rfl, Nat.le_of_ble_eq_true rfl⟩ ⟨by omega, by omega⟩ [0, 1] 2 ⟨rfl, rfl, rfl, ⟨Or.inl rfl, Or.inr rfl, trivial⟩⟩ (fun h => nomatch h) (Nat.le_of_ble_eq_true rfl) ⟨⟨Or.inr trivial, Or.inl rfl, trivial⟩, rfl, rfl, rfl, Nat.le_of_ble_eq_true rfl⟩ rfl zC6 (zat_G0 rfl) rfl dX6_clause_330 (fun r_330 w_330 hp => ?_) (fun _ _ h => h.elim)
          obtain ⟨rfl, F3, G3, rfl, m1, m2, m3⟩ := hp
          refine z_weq (w' := [zH, zG _ _ _ _]) rfl ?_
          refine z_seq (S' := []) rfl ?_
          exact z_vret F E rfl dX6_clause_333 (by omega) (by omega) (⟨rfl, F3, G3, A2, rfl, by rw [hcl2]; exact ⟨m1, by rw [m2.at 9 rfl]; exact k1.2.1, fun w => absurd rfl w, fun _ => (m2.at 10 rfl).trans (k1.2.2.2 rfl)⟩, fun _ => by rw [hcl2]; exact k4 g rfl, k5.tr m2 (by decide) (by decide), k6.tr m3 (by decide) (by decide), k7⟩)
      · have he := hok.2 e rfl
        refine z_aload_n F dX6_clause_322 rfl ?_
        refine z_callV F (c_misGood F2 G2 A2 B e (by omega) k1.2.1) 0 rfl (lw_V q1804 q1806 qs54 q117 q1807) (by decide +kernel) ⟨Nat.le_of_ble_eq_true rfl, Nat.le_of_ble_eq_true rfl⟩ ⟨by omega, by omega⟩ [0, 1] 2 ⟨rfl, rfl, rfl, ⟨Or.inl rfl, Or.inr rfl, trivial⟩⟩ (fun h => nomatch h) (Nat.le_of_ble_eq_true rfl) ⟨⟨Or.inr trivial, Or.inl rfl, trivial⟩, rfl, rfl, rfl, Nat.le_of_ble_eq_true rfl⟩ rfl zC6 (zat_G0 rfl) rfl dX6_clause_323 (fun r_323 w_323 hp => ?_) (fun _ _ h => h.elim)
        obtain ⟨rfl, rfl⟩ := hp
        refine z_weq (w' := [zH, zG _ _ _ _]) rfl ?_
        refine z_seq (S' := zi _ :: _) rfl ?_
        refine z_if_eqB F (tgt := 333) dX6_clause_326 (by decide) (fun c_326 => ?_) (fun c_326 => ?_)
        · exact z_vret F E rfl dX6_clause_333 (by omega) (by omega) (⟨rfl, F2, G2, A2, rfl, by rw [hcl2]; exact k1, fun w => by rw [hcl2] at w; exact absurd w (by show ¬ e = 0; omega), k5, k6, k7⟩)
        · exact absurd (of_decide_eq_true c_326) (by omega)
    have p269 : i ≠ 4 → ∀ (F2 : Nat → Int32) (G2 : Nat → Int64) (A2 : Nat → Nat → Int32), Z X [some (zr 1 0), none, some (zi (nI i)), none, none] [] [zH, zG F2 G2 A2 B] 0 0 322 → Z X [some (zr 1 0), none, some (zi (nI i)), none, none] [] [zH, zG F2 G2 A2 B] 0 0 269 := by
      intro q F2 G2 A2 kk
      refine z_iload_n F dX6_clause_269 rfl ?_
      refine z_iconst F (nI 4) dX6_clause_270 rfl ?_
      refine z_icmp_neN F (by omega) (by omega) (tgt := 312) dX6_clause_271 (by decide) (fun c_271 => ?_) (fun c_271 => ?_)
      · refine z_iload_n F dX6_clause_312 rfl ?_
        refine z_iconst F (nI 4) dX6_clause_313 rfl ?_
        refine z_icmp_neN F (by omega) (by omega) (tgt := 322) dX6_clause_314 (by decide) (fun c_314 => ?_) (fun c_314 => ?_)
        · exact kk
        · exact absurd c_314 (by omega)
      · exact absurd c_271 (by omega)
    have p232 : i ≠ 3 → ∀ (F2 : Nat → Int32) (G2 : Nat → Int64) (A2 : Nat → Nat → Int32), F2 19 = nI m → Z X [some (zr 1 0), none, some (zi (nI i)), none, none] [] [zH, zG F2 G2 A2 B] 0 0 269 → Z X [some (zr 1 0), none, some (zi (nI i)), none, none] [] [zH, zG F2 G2 A2 B] 0 0 232 := by
      intro q F2 G2 A2 g19 kk
      refine z_iconst F (nI 1) dX6_clause_232 rfl ?_
      refine z_istore_n F dX6_clause_233 (Nat.le_of_ble_eq_true rfl) ?_
      refine z_leq (L' := [_, _, _, _, _]) rfl ?_
      refine z_iload_n F dX6_clause_234 rfl ?_
      refine z_aload_n F dX6_clause_235 rfl ?_
      refine z_mi F rfl 19 rfl (Nat.le_of_ble_eq_true rfl) rfl q1499 dX6_clause_236 ?_
      refine z_ieq (g19) ?_
      refine z_icmp_geN F (by omega) (by omega) (tgt := 269) dX6_clause_239 (by decide) (fun c_239 => ?_) (fun c_239 => ?_)
      · exact absurd c_239 (by omega)
      · refine z_iload_n F dX6_clause_242 rfl ?_
        refine z_iconst F (nI 3) dX6_clause_243 rfl ?_
        refine z_icmp_neN F (by omega) (by omega) (tgt := 269) dX6_clause_244 (by decide) (fun c_244 => ?_) (fun c_244 => ?_)
        · refine z_loc _ ?_ kk
          exact ⟨rfl, rfl, trivial⟩
        · exact absurd c_244 (by omega)
    have p179 : i ≠ 2 → ∀ (F2 : Nat → Int32) (G2 : Nat → Int64) (A2 : Nat → Nat → Int32), F2 19 = nI m → Z X [some (zr 1 0), none, some (zi (nI i)), none, none] [] [zH, zG F2 G2 A2 B] 0 0 232 → Z X [some (zr 1 0), none, some (zi (nI i)), none, none] [] [zH, zG F2 G2 A2 B] 0 0 179 := by
      intro q F2 G2 A2 g19 kk
      refine z_iconst F (nI 1) dX6_clause_179 rfl ?_
      refine z_istore_n F dX6_clause_180 (Nat.le_of_ble_eq_true rfl) ?_
      refine z_leq (L' := [_, _, _, _, _]) rfl ?_
      refine z_iload_n F dX6_clause_181 rfl ?_
      refine z_aload_n F dX6_clause_182 rfl ?_
      refine z_mi F rfl 19 rfl (Nat.le_of_ble_eq_true rfl) rfl q1499 dX6_clause_183 ?_
      refine z_ieq (g19) ?_
      refine z_icmp_geN F (by omega) (by omega) (tgt := 232) dX6_clause_186 (by decide) (fun c_186 => ?_) (fun c_186 => ?_)
      · exact absurd c_186 (by omega)
      · refine z_iload_n F dX6_clause_189 rfl ?_
        refine z_iconst F (nI 2) dX6_clause_190 rfl ?_
        refine z_icmp_neN F (by omega) (by omega) (tgt := 232) dX6_clause_191 (by decide) (fun c_191 => ?_) (fun c_191 => ?_)
        · refine z_loc _ ?_ kk
          exact ⟨rfl, rfl, trivial⟩
        · exact absurd c_191 (by omega)
    have all_ : i ≠ 2 → i ≠ 3 → i ≠ 4 → ∀ (s : dS) (F2 : Nat → Int32) (G2 : Nat → Int64) (A2 : Nat → Nat → Int32), s = lnR d i l m f → LSt tb z F0 G0 A0 m l b1 F2 G2 A2 s → Z X [some (zr 1 0), none, some (zi (nI i)), none, none] [] [zH, zG F2 G2 A2 B] 0 0 179 := fun q2 q3 q4 s F2 G2 A2 hs hL => p179 q2 F2 G2 A2 hL.2.1 (p232 q3 F2 G2 A2 hL.2.1 (p269 q4 F2 G2 A2 (e322 s F2 G2 A2 hs hL)))
    -- rows and rings
    have row0 : i = 0 → ∀ (F2 : Nat → Int32) (G2 : Nat → Int64) (A2 : Nat → Nat → Int32), LSt tb z F0 G0 A0 m l b1 F2 G2 A2 (drow d f l (m - 1)) → Z X [some (zr 1 0), none, some (zi (nI i)), none, none] [] [zH, zG F2 G2 A2 B] 0 0 153 := by
      intro q F2 G2 A2 hL
      refine z_iload_n F dX6_clause_153 rfl ?_
      refine z_iconst F (nI 1) dX6_clause_154 rfl ?_
      refine z_icmp_neN F (by omega) (by omega) (tgt := 179) dX6_clause_155 (by decide) (fun c_155 => ?_) (fun c_155 => ?_)
      · exact all_ (by omega) (by omega) (by omega) _ F2 G2 A2 (by unfold lnR; rw [if_pos q]) hL
      · exact absurd c_155 (by omega)
    have row1 : i = 1 → ∀ (F2 : Nat → Int32) (G2 : Nat → Int64) (A2 : Nat → Nat → Int32), LSt tb z F0 G0 A0 m l b1 F2 G2 A2 (drow d f l (m - 1)) → Z X [some (zr 1 0), none, some (zi (nI i)), none, none] [] [zH, zG F2 G2 A2 B] 0 0 153 := by
      intro q F2 G2 A2 hL
      have hok2 := drow_ok (d := d) hf hl.1 (m - 1) (by omega)
      obtain ⟨k1, k2, k3, k4, k5, k6, k7⟩ := id hL
      refine z_iload_n F dX6_clause_153 rfl ?_
      refine z_iconst F (nI 1) dX6_clause_154 rfl ?_
      refine z_icmp_neN F (by omega) (by omega) (tgt := 179) dX6_clause_155 (by decide) (fun c_155 => ?_) (fun c_155 => ?_)
      · exact absurd c_155 (by omega)
      · refine z_aload_n F dX6_clause_158 rfl ?_
        refine z_aload_n F dX6_clause_159 rfl ?_
        refine z_ma F rfl 18 rfl (Nat.le_of_ble_eq_true rfl) rfl q1498 dX6_clause_160 ?_
        refine z_aload_n F dX6_clause_163 rfl ?_
        refine z_mi F rfl 19 rfl (Nat.le_of_ble_eq_true rfl) rfl q1499 dX6_clause_164 ?_
        refine z_ieq (k2) ?_
        refine z_iconst F (nI 1) dX6_clause_167 rfl ?_
        refine z_isubN F (by omega) dX6_clause_168 ?_
        refine z_ialdGN F rfl rfl (Nat.le_of_ble_eq_true rfl) (by omega) rfl dX6_clause_169 ?_
        refine z_ieq (k3 (m - 1) (by omega)) ?_
        refine z_aload_n F dX6_clause_170 rfl ?_
        refine z_ma F rfl 18 rfl (Nat.le_of_ble_eq_true rfl) rfl q1498 dX6_clause_171 ?_
        refine z_iconst F (nI 0) dX6_clause_174 rfl ?_
        refine z_ialdGN F rfl rfl (Nat.le_of_ble_eq_true rfl) (by omega) rfl dX6_clause_175 ?_
        refine z_ieq (k3 0 (by omega)) ?_
        refine z_callV F (c_mdraw F2 G2 A2 B tb z n d b1 (l (m - 1)) (l 0) _ hok2 hn hd (hl.1 _ (by omega)) (hl.1 _ (by omega)) (hne (m - 1) 0 (by omega) (by omega) (by omega)) k1 ((k5.at 5 rfl).trans h5) k4) 2 rfl (lw_V q1824 q1826 qs59 q117 q1827) (by decide +kernel) ⟨Nat.le_of_ble_eq_true rfl, Nat.le_of_ble_eq_true rfl⟩ ⟨by omega, by omega⟩ [0, 1] 2 ⟨rfl, rfl, rfl, ⟨Or.inl rfl, Or.inr rfl, trivial⟩⟩ (fun h => nomatch h) (Nat.le_of_ble_eq_true rfl) ⟨⟨Or.inr trivial, Or.inl rfl, trivial⟩, rfl, rfl, rfl, Nat.le_of_ble_eq_true rfl⟩ rfl zC6 (zat_G0 rfl) rfl dX6_clause_176 (fun r_176 w_176 hp => ?_) (fun _ _ h => h.elim)
        obtain ⟨rfl, F3, A3, rfl, m1, m2, m3, m4⟩ := hp
        refine z_weq (w' := [zH, zG _ _ _ _]) rfl ?_
        refine z_seq (S' := []) rfl ?_
        exact all_ (by omega) (by omega) (by omega) _ F3 G2 A3 (by unfold lnR; rw [if_neg (by omega), if_pos q]) (LSt_dj hL m1 m2 m3 m4)
    have rows : (i = 0 ∨ i = 1) → ∀ (u k : Nat) (F2 : Nat → Int32) (G2 : Nat → Int64) (A2 : Nat → Nat → Int32), m - (k + 1) < u → k + 1 ≤ m → LSt tb z F0 G0 A0 m l b1 F2 G2 A2 (drow d f l k) → Z X [some (zr 1 0), none, some (zi (nI i)), some (zi (nI (k + 1))), none] [] [zH, zG F2 G2 A2 B] 0 0 112 := by
      intro hi01 u
      induction u with
      | zero => intro k F2 G2 A2 hu; omega
      | succ u ih =>
        intro k F2 G2 A2 hu hk hL
        have hok2 := drow_ok (d := d) hf hl.1 k hk
        obtain ⟨k1, k2, k3, k4, k5, k6, k7⟩ := id hL
        have step : k + 1 < m → Z X [some (zr 1 0), none, some (zi (nI i)), some (zi (nI (k + 1))), none] [] [zH, zG F2 G2 A2 B] 0 0 129 := by
          intro hkm
          have a1 := k3 k (by omega)
          have a2 := k3 (k + 1) hkm
          refine z_aload_n F dX6_clause_129 rfl ?_
          refine z_aload_n F dX6_clause_130 rfl ?_
          refine z_ma F rfl 18 rfl (Nat.le_of_ble_eq_true rfl) rfl q1498 dX6_clause_131 ?_
          refine z_iload_n F dX6_clause_134 rfl ?_
          refine z_iconst F (nI 1) dX6_clause_135 rfl ?_
          refine z_isubN F (by omega) dX6_clause_136 ?_
          refine z_ieq (congrArg nI (show k + 1 - 1 = k by omega)) ?_
          refine z_ialdGN F rfl rfl (Nat.le_of_ble_eq_true rfl) (by omega) rfl dX6_clause_137 ?_
          refine z_ieq (a1) ?_
          refine z_aload_n F dX6_clause_138 rfl ?_
          refine z_ma F rfl 18 rfl (Nat.le_of_ble_eq_true rfl) rfl q1498 dX6_clause_139 ?_
          refine z_iload_n F dX6_clause_142 rfl ?_
          refine z_ialdGN F rfl rfl (Nat.le_of_ble_eq_true rfl) (by omega) rfl dX6_clause_143 ?_
          refine z_ieq (a2) ?_
          refine z_callV F (c_mdraw F2 G2 A2 B tb z n d b1 (l k) (l (k + 1)) _ hok2 hn hd (hl.1 k (by omega)) (hl.1 (k + 1) hkm) (hne k (k + 1) (by omega) hkm (by omega)) k1 ((k5.at 5 rfl).trans h5) k4) 2 rfl (lw_V q1824 q1826 qs59 q117 q1827) (by decide +kernel) ⟨Nat.le_of_ble_eq_true rfl, Nat.le_of_ble_eq_true rfl⟩ ⟨by omega, by omega⟩ [0, 1] 2 ⟨rfl, rfl, rfl, ⟨Or.inl rfl, Or.inr rfl, trivial⟩⟩ (fun h => nomatch h) (Nat.le_of_ble_eq_true rfl) ⟨⟨Or.inr trivial, Or.inl rfl, trivial⟩, rfl, rfl, rfl, Nat.le_of_ble_eq_true rfl⟩ rfl zC6 (zat_G0 rfl) rfl dX6_clause_144 (fun r_144 w_144 hp => ?_) (fun _ _ h => h.elim)
          obtain ⟨rfl, F3, A3, rfl, m1, m2, m3, m4⟩ := hp
          refine z_weq (w' := [zH, zG _ _ _ _]) rfl ?_
          refine z_seq (S' := []) rfl ?_
          refine z_iincN F 1 dX6_clause_147 rfl rfl ?_
          refine z_leq (L' := [_, _, _, _, _]) rfl ?_
          refine z_goto F (tgt := 112) dX6_clause_150 (by decide) ?_
          exact ih (k + 1) F3 G2 A3 (by omega) (by omega) (LSt_dj hL m1 m2 m3 m4)
        refine z_iload_n F dX6_clause_112 rfl ?_
        refine z_aload_n F dX6_clause_113 rfl ?_
        refine z_mi F rfl 19 rfl (Nat.le_of_ble_eq_true rfl) rfl q1499 dX6_clause_114 ?_
        refine z_ieq (k2) ?_
        refine z_icmp_geN F (by omega) (by omega) (tgt := 153) dX6_clause_117 (by decide) (fun c_117 => ?_) (fun c_117 => ?_)
        · have ek : k + 1 = m := by omega
          refine z_loc [some (zr 1 0), none, some (zi (nI i)), none, none] ⟨rfl, rfl, trivial⟩ ?_
          rcases hi01 with q0 | q1
          · exact row0 q0 F2 G2 A2 (by rw [show m - 1 = k by omega]; exact hL)
          · exact row1 q1 F2 G2 A2 (by rw [show m - 1 = k by omega]; exact hL)
        · refine z_iload_n F dX6_clause_120 rfl ?_
          refine z_if_eqN F (by omega) (tgt := 129) dX6_clause_121 (by decide) (fun c_121 => ?_) (fun c_121 => ?_)
          · exact step (by omega)
          · refine z_iload_n F dX6_clause_124 rfl ?_
            refine z_iconst F (nI 1) dX6_clause_125 rfl ?_
            refine z_icmp_neN F (by omega) (by omega) (tgt := 153) dX6_clause_126 (by decide) (fun c_126 => ?_) (fun c_126 => ?_)
            · exact absurd c_126 (by omega)
            · exact step (by omega)
    -- all
    have allI : i = 2 → ∀ (u k : Nat) (F2 : Nat → Int32) (G2 : Nat → Int64) (A2 : Nat → Nat → Int32), m - (k + 1) < u → k + 1 ≤ m → LSt tb z F0 G0 A0 m l b1 F2 G2 A2 (dall d f l k) → Z X [some (zr 1 0), none, some (zi (nI i)), some (zi (nI (k + 1))), none] [] [zH, zG F2 G2 A2 B] 0 0 181 := by
      intro q u
      induction u with
      | zero => intro k F2 G2 A2 hu; omega
      | succ u ih =>
        intro k F2 G2 A2 hu hk hL
        have inn : k + 1 < m → ∀ (u2 j : Nat) (F3 : Nat → Int32) (A3 : Nat → Nat → Int32), k + 1 - j < u2 → j ≤ k + 1 → LSt tb z F0 G0 A0 m l b1 F3 G2 A3 (dalr d (dall d f l k) l (k + 1) j) → Z X [some (zr 1 0), none, some (zi (nI i)), some (zi (nI (k + 1))), some (zi (nI j))] [] [zH, zG F3 G2 A3 B] 0 0 197 := by
          intro hkm u2
          induction u2 with
          | zero => intro j F3 A3 hu2; omega
          | succ u2 ih2 =>
            intro j F3 A3 hu2 hj hL3
            have hok2 := dalr_ok (d := d) (dall_ok (d := d) hf hl.1 k (by omega)) hl.1 hkm j (by omega)
            obtain ⟨k1, k2, k3, k4, k5, k6, k7⟩ := id hL3
            refine z_iload F dX6_clause_197 rfl ?_
            refine z_iload_n F dX6_clause_199 rfl ?_
            refine z_icmp_geN F (by omega) (by omega) (tgt := 226) dX6_clause_200 (by decide) (fun c_200 => ?_) (fun c_200 => ?_)
            · have ej : j = k + 1 := by omega
              subst ej
              refine z_iincN F 1 dX6_clause_226 rfl rfl ?_
              refine z_leq (L' := [_, _, _, _, _]) rfl ?_
              refine z_goto F (tgt := 181) dX6_clause_229 (by decide) ?_
              refine z_loc _ ?_ (ih (k + 1) F3 G2 A3 (by omega) (by omega) hL3)
              exact ⟨rfl, rfl, rfl, trivial⟩
            · refine z_aload_n F dX6_clause_203 rfl ?_
              refine z_aload_n F dX6_clause_204 rfl ?_
              refine z_ma F rfl 18 rfl (Nat.le_of_ble_eq_true rfl) rfl q1498 dX6_clause_205 ?_
              refine z_iload F dX6_clause_208 rfl ?_
              refine z_ialdGN F rfl rfl (Nat.le_of_ble_eq_true rfl) (by omega) rfl dX6_clause_210 ?_
              refine z_ieq (k3 j (by omega)) ?_
              refine z_aload_n F dX6_clause_211 rfl ?_
              refine z_ma F rfl 18 rfl (Nat.le_of_ble_eq_true rfl) rfl q1498 dX6_clause_212 ?_
              refine z_iload_n F dX6_clause_215 rfl ?_
              refine z_ialdGN F rfl rfl (Nat.le_of_ble_eq_true rfl) (by omega) rfl dX6_clause_216 ?_
              refine z_ieq (k3 (k + 1) hkm) ?_
              refine z_callV F (c_mdraw F3 G2 A3 B tb z n d b1 (l j) (l (k + 1)) _ hok2 hn hd (hl.1 j (by omega)) (hl.1 (k + 1) hkm) (hne j (k + 1) (by omega) hkm (by omega)) k1 ((k5.at 5 rfl).trans h5) k4) 2 rfl (lw_V q1824 q1826 qs59 q117 q1827) (by decide +kernel) ⟨Nat.le_of_ble_eq_true rfl, Nat.le_of_ble_eq_true rfl⟩ ⟨by omega, by omega⟩ [0, 1] 2 ⟨rfl, rfl, rfl, ⟨Or.inl rfl, Or.inr rfl, trivial⟩⟩ (fun h => nomatch h) (Nat.le_of_ble_eq_true rfl) ⟨⟨Or.inr trivial, Or.inl rfl, trivial⟩, rfl, rfl, rfl, Nat.le_of_ble_eq_true rfl⟩ rfl zC6 (zat_G0 rfl) rfl dX6_clause_217 (fun r_217 w_217 hp => ?_) (fun _ _ h => h.elim)
              obtain ⟨rfl, F4, A4, rfl, m1, m2, m3, m4⟩ := hp
              refine z_weq (w' := [zH, zG _ _ _ _]) rfl ?_
              refine z_seq (S' := []) rfl ?_
              refine z_iincN F 1 dX6_clause_220 rfl rfl ?_
              refine z_leq (L' := [_, _, _, _, _]) rfl ?_
              refine z_goto F (tgt := 197) dX6_clause_223 (by decide) ?_
              exact ih2 (j + 1) F4 A4 (by omega) (by omega) (LSt_dj hL3 m1 m2 m3 m4)
        refine z_iload_n F dX6_clause_181 rfl ?_
        refine z_aload_n F dX6_clause_182 rfl ?_
        refine z_mi F rfl 19 rfl (Nat.le_of_ble_eq_true rfl) rfl q1499 dX6_clause_183 ?_
        refine z_ieq (hL.2.1) ?_
        refine z_icmp_geN F (by omega) (by omega) (tgt := 232) dX6_clause_186 (by decide) (fun c_186 => ?_) (fun c_186 => ?_)
        · have ek : k + 1 = m := by omega
          refine z_loc [some (zr 1 0), none, some (zi (nI i)), none, none] ⟨rfl, rfl, trivial⟩ ?_
          exact p232 (by omega) F2 G2 A2 hL.2.1 (p269 (by omega) F2 G2 A2 (e322 (dall d f l k) F2 G2 A2 (by unfold lnR; rw [if_neg (by omega), if_neg (by omega), if_pos q, show m - 1 = k by omega]) hL))
        · refine z_iload_n F dX6_clause_189 rfl ?_
          refine z_iconst F (nI 2) dX6_clause_190 rfl ?_
          refine z_icmp_neN F (by omega) (by omega) (tgt := 232) dX6_clause_191 (by decide) (fun c_191 => ?_) (fun c_191 => ?_)
          · exact absurd c_191 (by omega)
          · refine z_iconst F (nI 0) dX6_clause_194 rfl ?_
            refine z_istore F dX6_clause_195 (Nat.le_of_ble_eq_true rfl) ?_
            refine z_leq (L' := [_, _, _, _, _]) rfl ?_
            exact inn (by omega) (k + 2) 0 F2 A2 (by omega) (by omega) hL
    -- stars
    have star_ : i = 3 → ∀ (u k : Nat) (F2 : Nat → Int32) (G2 : Nat → Int64) (A2 : Nat → Nat → Int32), m - (k + 1) < u → k + 1 ≤ m → LSt tb z F0 G0 A0 m l b1 F2 G2 A2 (dstr d f l k) → Z X [some (zr 1 0), none, some (zi (nI i)), some (zi (nI (k + 1))), none] [] [zH, zG F2 G2 A2 B] 0 0 234 := by
      intro q u
      induction u with
      | zero => intro k F2 G2 A2 hu; omega
      | succ u ih =>
        intro k F2 G2 A2 hu hk hL
        have hok2 := dstr_ok (d := d) hf hl.1 k hk
        obtain ⟨k1, k2, k3, k4, k5, k6, k7⟩ := id hL
        refine z_iload_n F dX6_clause_234 rfl ?_
        refine z_aload_n F dX6_clause_235 rfl ?_
        refine z_mi F rfl 19 rfl (Nat.le_of_ble_eq_true rfl) rfl q1499 dX6_clause_236 ?_
        refine z_ieq (k2) ?_
        refine z_icmp_geN F (by omega) (by omega) (tgt := 269) dX6_clause_239 (by decide) (fun c_239 => ?_) (fun c_239 => ?_)
        · have ek : k + 1 = m := by omega
          refine z_loc [some (zr 1 0), none, some (zi (nI i)), none, none] ⟨rfl, rfl, trivial⟩ ?_
          exact p269 (by omega) F2 G2 A2 (e322 (dstr d f l k) F2 G2 A2 (by unfold lnR; rw [if_neg (by omega), if_neg (by omega), if_neg (by omega), if_pos q, show m - 1 = k by omega]) hL)
        · refine z_iload_n F dX6_clause_242 rfl ?_
          refine z_iconst F (nI 3) dX6_clause_243 rfl ?_
          refine z_icmp_neN F (by omega) (by omega) (tgt := 269) dX6_clause_244 (by decide) (fun c_244 => ?_) (fun c_244 => ?_)
          · exact absurd c_244 (by omega)
          · refine z_aload_n F dX6_clause_247 rfl ?_
            refine z_aload_n F dX6_clause_248 rfl ?_
            refine z_ma F rfl 18 rfl (Nat.le_of_ble_eq_true rfl) rfl q1498 dX6_clause_249 ?_
            refine z_iconst F (nI 0) dX6_clause_252 rfl ?_
            refine z_ialdGN F rfl rfl (Nat.le_of_ble_eq_true rfl) (by omega) rfl dX6_clause_253 ?_
            refine z_ieq (k3 0 (by omega)) ?_
            refine z_aload_n F dX6_clause_254 rfl ?_
            refine z_ma F rfl 18 rfl (Nat.le_of_ble_eq_true rfl) rfl q1498 dX6_clause_255 ?_
            refine z_iload_n F dX6_clause_258 rfl ?_
            refine z_ialdGN F rfl rfl (Nat.le_of_ble_eq_true rfl) (by omega) rfl dX6_clause_259 ?_
            refine z_ieq (k3 (k + 1) (by omega)) ?_
            refine z_callV F (c_mdraw F2 G2 A2 B tb z n d b1 (l 0) (l (k + 1)) _ hok2 hn hd (hl.1 0 (by omega)) (hl.1 (k + 1) (by omega)) (hne 0 (k + 1) (by omega) (by omega) (by omega)) k1 ((k5.at 5 rfl).trans h5) k4) 2 rfl (lw_V q1824 q1826 qs59 q117 q1827) (by decide +kernel) ⟨Nat.le_of_ble_eq_true rfl, Nat.le_of_ble_eq_true rfl⟩ ⟨by omega, by omega⟩ [0, 1] 2 ⟨rfl, rfl, rfl, ⟨Or.inl rfl, Or.inr rfl, trivial⟩⟩ (fun h => nomatch h) (Nat.le_of_ble_eq_true rfl) ⟨⟨Or.inr trivial, Or.inl rfl, trivial⟩, rfl, rfl, rfl, Nat.le_of_ble_eq_true rfl⟩ rfl zC6 (zat_G0 rfl) rfl dX6_clause_260 (fun r_260 w_260 hp => ?_) (fun _ _ h => h.elim)
            obtain ⟨rfl, F3, A3, rfl, m1, m2, m3, m4⟩ := hp
            refine z_weq (w' := [zH, zG _ _ _ _]) rfl ?_
            refine z_seq (S' := []) rfl ?_
            refine z_iincN F 1 dX6_clause_263 rfl rfl ?_
            refine z_leq (L' := [_, _, _, _, _]) rfl ?_
            refine z_goto F (tgt := 234) dX6_clause_266 (by decide) ?_
            exact ih (k + 1) F3 G2 A3 (by omega) (by omega) (LSt_dj hL m1 m2 m3 m4)
    -- a line off
    have off_ : i = 4 → ∀ (F2 : Nat → Int32) (G2 : Nat → Int64) (A2 : Nat → Nat → Int32), LSt tb z F0 G0 A0 m l b1 F2 G2 A2 (.inl f) → Z X [some (zr 1 0), none, some (zi (nI i)), none, none] [] [zH, zG F2 G2 A2 B] 0 0 269 := by
      intro q F2 G2 A2 hL
      obtain ⟨k1, k2, k3, k4, k5, k6, k7⟩ := id hL
      have hf2 := k4 f rfl
      have hln : lnR d i l m f = doff f l := by unfold lnR; rw [if_neg (by omega), if_neg (by omega), if_neg (by omega), if_neg (by omega)]
      refine z_iload_n F dX6_clause_269 rfl ?_
      refine z_iconst F (nI 4) dX6_clause_270 rfl ?_
      refine z_icmp_neN F (by omega) (by omega) (tgt := 312) dX6_clause_271 (by decide) (fun c_271 => ?_) (fun c_271 => ?_)
      · exact absurd c_271 (by omega)
      · refine z_aload_n F dX6_clause_274 rfl ?_
        refine z_aload_n F dX6_clause_275 rfl ?_
        refine z_ma F rfl 18 rfl (Nat.le_of_ble_eq_true rfl) rfl q1498 dX6_clause_276 ?_
        refine z_iconst F (nI 0) dX6_clause_279 rfl ?_
        refine z_ialdGN F rfl rfl (Nat.le_of_ble_eq_true rfl) (by omega) rfl dX6_clause_280 ?_
        refine z_ieq (k3 0 (by omega)) ?_
        refine z_aload_n F dX6_clause_281 rfl ?_
        refine z_ma F rfl 18 rfl (Nat.le_of_ble_eq_true rfl) rfl q1498 dX6_clause_282 ?_
        refine z_iconst F (nI 1) dX6_clause_285 rfl ?_
        refine z_ialdGN F rfl rfl (Nat.le_of_ble_eq_true rfl) (by omega) rfl dX6_clause_286 ?_
        refine z_ieq (k3 1 (by omega)) ?_
        refine z_callV F (c_isJoined F2 G2 A2 B (l 0) (l 1) (by have := hl.1 0 (by omega); omega) (by have := hl.1 1 (by omega); omega)) 2 rfl (lw_V q1748 q1750 qs46 q117 q1751) (by decide +kernel) ⟨Nat.le_of_ble_eq_true rfl, Nat.le_of_ble_eq_true rfl⟩ ⟨by omega, by omega⟩ [0, 1] 2 ⟨rfl, rfl, rfl, ⟨Or.inl rfl, Or.inr rfl, trivial⟩⟩ (fun h => nomatch h) (Nat.le_of_ble_eq_true rfl) ⟨⟨Or.inr trivial, Or.inl rfl, trivial⟩, rfl, rfl, rfl, Nat.le_of_ble_eq_true rfl⟩ rfl zC6 (zat_G0 rfl) rfl dX6_clause_287 (fun r_287 w_287 hp => ?_) (fun _ _ h => h.elim)
        obtain ⟨rfl, rfl⟩ := hp
        rw [hf2 (l 0) (by have := hl.1 0 (by omega); omega)]
        refine z_weq (w' := [zH, zG _ _ _ _]) rfl ?_
        refine z_seq (S' := zi _ :: _) rfl ?_
        refine z_if_eqB F (tgt := 312) dX6_clause_290 (by decide) (fun c_290 => ?_) (fun c_290 => ?_)
        · refine z_iload_n F dX6_clause_312 rfl ?_
          refine z_iconst F (nI 4) dX6_clause_313 rfl ?_
          refine z_icmp_neN F (by omega) (by omega) (tgt := 322) dX6_clause_314 (by decide) (fun c_314 => ?_) (fun c_314 => ?_)
          · exact absurd c_314 (by omega)
          · refine z_aload_n F dX6_clause_317 rfl ?_
            refine z_iconst F (nI 5) dX6_clause_318 rfl ?_
            refine z_callV F (c_mwrong F2 G2 A2 B tb z 0 b1 5 (by omega) k1 (by decide)) 1 rfl (lw_V q1808 q1810 qs55 q117 q1811) (by decide +kernel) ⟨Nat.le_of_ble_eq_true rfl, Nat.le_of_ble_eq_true rfl⟩ ⟨by omega, by omega⟩ [0, 1] 2 ⟨rfl, rfl, rfl, ⟨Or.inl rfl, Or.inr rfl, trivial⟩⟩ (fun h => nomatch h) (Nat.le_of_ble_eq_true rfl) ⟨⟨Or.inr trivial, Or.inl rfl, trivial⟩, rfl, rfl, rfl, Nat.le_of_ble_eq_true rfl⟩ rfl zC6 (zat_G0 rfl) rfl dX6_clause_319 (fun r_319 w_319 hp => ?_) (fun _ _ h => h.elim)
            obtain ⟨rfl, F3, rfl, m1, m2⟩ := hp
            rw [if_pos rfl] at m1
            refine z_weq (w' := [zH, zG _ _ _ _]) rfl ?_
            refine z_seq (S' := []) rfl ?_
            exact e322 (.inr 5) F3 G2 A2 (by rw [hln]; unfold doff; rw [if_neg (by rw [c_290]; decide)]) ⟨m1, (m2.at 19 rfl).trans k2, k3, fun g e => (by cases e), k5.tr m2 (by decide) (by decide), k6, k7⟩
        · refine z_aload_n F dX6_clause_293 rfl ?_
          refine z_aload_n F dX6_clause_294 rfl ?_
          refine z_ma F rfl 18 rfl (Nat.le_of_ble_eq_true rfl) rfl q1498 dX6_clause_295 ?_
          refine z_iconst F (nI 0) dX6_clause_298 rfl ?_
          refine z_ialdGN F rfl rfl (Nat.le_of_ble_eq_true rfl) (by omega) rfl dX6_clause_299 ?_
          refine z_ieq (k3 0 (by omega)) ?_
          refine z_aload_n F dX6_clause_300 rfl ?_
          refine z_ma F rfl 18 rfl (Nat.le_of_ble_eq_true rfl) rfl q1498 dX6_clause_301 ?_
          refine z_iconst F (nI 1) dX6_clause_304 rfl ?_
          refine z_ialdGN F rfl rfl (Nat.le_of_ble_eq_true rfl) (by omega) rfl dX6_clause_305 ?_
          refine z_ieq (k3 1 (by omega)) ?_
          refine z_callV F (c_parts F2 G2 A2 B (l 0) (l 1) (by have := hl.1 0 (by omega); omega) (by have := hl.1 1 (by omega); omega)) 2 rfl (lw_V q1763 q1765 qs48 q117 q1766) (by decide +kernel) ⟨Nat.le_of_ble_eq_true rfl, Nat.le_of_ble_eq_true rfl⟩ ⟨by omega, by omega⟩ [0, 1] 2 ⟨rfl, rfl, rfl, ⟨Or.inl rfl, Or.inr rfl, trivial⟩⟩ (fun h => nomatch h) (Nat.le_of_ble_eq_true rfl) ⟨⟨Or.inr trivial, Or.inl rfl, trivial⟩, rfl, rfl, rfl, Nat.le_of_ble_eq_true rfl⟩ rfl zC6 (zat_G0 rfl) rfl dX6_clause_306 (fun r_306 w_306 hp => ?_) (fun _ _ h => h.elim)
          obtain ⟨rfl, rfl⟩ := hp
          refine z_weq (w' := [zH, zG _ _ _ _]) rfl ?_
          refine z_seq (S' := []) rfl ?_
          refine z_goto F (tgt := 322) dX6_clause_309 (by decide) ?_
          refine e322 (.inl (pt f (l 0) (l 1))) F2 G2 _ (by rw [hln]; unfold doff; rw [if_pos c_290]) ⟨k1, k2, k3, fun g e => ?_, k5, k6, frm_fA k7 (by decide)⟩
          cases e
          intro k hk
          rw [fA_at]
          exact pt_cong hf2 (by have := hl.1 0 (by omega); omega) (by have := hl.1 1 (by omega); omega) hk
    -- the first loop's head for all kinds
    have p153 : i ≠ 0 → i ≠ 1 → ∀ (F2 : Nat → Int32) (G2 : Nat → Int64) (A2 : Nat → Nat → Int32), F2 19 = nI m → Z X [some (zr 1 0), none, some (zi (nI i)), none, none] [] [zH, zG F2 G2 A2 B] 0 0 179 → Z X [some (zr 1 0), none, some (zi (nI i)), none, none] [] [zH, zG F2 G2 A2 B] 0 0 110 := by
      intro q0 q1 F2 G2 A2 g19 kk
      refine z_iconst F (nI 1) dX6_clause_110 rfl ?_
      refine z_istore_n F dX6_clause_111 (Nat.le_of_ble_eq_true rfl) ?_
      refine z_leq (L' := [_, _, _, _, _]) rfl ?_
      refine z_iload_n F dX6_clause_112 rfl ?_
      refine z_aload_n F dX6_clause_113 rfl ?_
      refine z_mi F rfl 19 rfl (Nat.le_of_ble_eq_true rfl) rfl q1499 dX6_clause_114 ?_
      refine z_ieq (g19) ?_
      refine z_icmp_geN F (by omega) (by omega) (tgt := 153) dX6_clause_117 (by decide) (fun c_117 => ?_) (fun c_117 => ?_)
      · exact absurd c_117 (by omega)
      · refine z_iload_n F dX6_clause_120 rfl ?_
        refine z_if_eqN F (by omega) (tgt := 129) dX6_clause_121 (by decide) (fun c_121 => ?_) (fun c_121 => ?_)
        · exact absurd c_121 (by omega)
        · refine z_iload_n F dX6_clause_124 rfl ?_
          refine z_iconst F (nI 1) dX6_clause_125 rfl ?_
          refine z_icmp_neN F (by omega) (by omega) (tgt := 153) dX6_clause_126 (by decide) (fun c_126 => ?_) (fun c_126 => ?_)
          · refine z_iload_n F dX6_clause_153 rfl ?_
            refine z_iconst F (nI 1) dX6_clause_154 rfl ?_
            refine z_icmp_neN F (by omega) (by omega) (tgt := 179) dX6_clause_155 (by decide) (fun c_155 => ?_) (fun c_155 => ?_)
            · refine z_loc _ ?_ kk
              exact ⟨rfl, rfl, trivial⟩
            · exact absurd c_155 (by omega)
          · exact absurd c_126 (by omega)
    rcases (show i = 0 ∨ i = 1 ∨ i = 2 ∨ i = 3 ∨ i = 4 by omega) with q | q | q | q | q
    · skip
      refine z_iconst F (nI 1) dX6_clause_110 rfl ?_
      refine z_istore_n F dX6_clause_111 (Nat.le_of_ble_eq_true rfl) ?_
      refine z_leq (L' := [_, _, _, _, _]) rfl ?_
      exact rows (Or.inl q) m 0 F1 G1 A1 (by omega) (by omega) hL0
    · skip
      refine z_iconst F (nI 1) dX6_clause_110 rfl ?_
      refine z_istore_n F dX6_clause_111 (Nat.le_of_ble_eq_true rfl) ?_
      refine z_leq (L' := [_, _, _, _, _]) rfl ?_
      exact rows (Or.inr q) m 0 F1 G1 A1 (by omega) (by omega) hL0
    · refine p153 (by omega) (by omega) F1 G1 A1 hL0.2.1 ?_
      refine z_iconst F (nI 1) dX6_clause_179 rfl ?_
      refine z_istore_n F dX6_clause_180 (Nat.le_of_ble_eq_true rfl) ?_
      refine z_leq (L' := [_, _, _, _, _]) rfl ?_
      exact allI q m 0 F1 G1 A1 (by omega) (by omega) hL0
    · refine p153 (by omega) (by omega) F1 G1 A1 hL0.2.1 (p179 (by omega) F1 G1 A1 hL0.2.1 ?_)
      refine z_iconst F (nI 1) dX6_clause_232 rfl ?_
      refine z_istore_n F dX6_clause_233 (Nat.le_of_ble_eq_true rfl) ?_
      refine z_leq (L' := [_, _, _, _, _]) rfl ?_
      exact star_ q m 0 F1 G1 A1 (by omega) (by omega) hL0
    · exact p153 (by omega) (by omega) F1 G1 A1 hL0.2.1 (p179 (by omega) F1 G1 A1 hL0.2.1 (p232 (by omega) F1 G1 A1 hL0.2.1 (off_ q F1 G1 A1 hL0)))
  -- behind the knots
  have at82 : ∀ (F1 : Nat → Int32) (G1 : Nat → Int64) (A1 : Nat → Nat → Int32) (s : kS), clK tb z n i b = s → RS tb z F1 G1 s.1 s.2.1 → F1 19 = nI s.2.2.2 → (∀ k, k < s.2.2.2 → A1 18 k = nI (s.2.2.1 k)) → frm LF F0 F1 → frm [17] G0 G1 → frm [18] A0 A1 → Z X [some (zr 1 0), none, some (zi (nI i)), none, none] [] [zH, zG F1 G1 A1 B] 0 0 82 := by
    intro F1 G1 A1 s hs hS1 g19 gA kF kG kA
    obtain ⟨e, b1, l, m⟩ := s
    have hle : e ≤ 6 := by rw [hs] at ck3; exact ck3
    have hkd := kd_lt tb z b1
    have end_ : ∀ (F2 : Nat → Int32) (e2 : Nat), e2 ≠ 0 → e2 ≤ 6 → clS tb z n d f c b = (e2, b1, f) → RS tb z F2 G1 e2 b1 → frm LF F0 F2 → Z X [some (zr 1 0), none, some (zi (nI i)), none, none] [] [zH, zG F2 G1 A1 B] 0 0 102 := by
      intro F2 e2 hne hle2 hc2 hS2 kF2
      refine z_aload_n F dX6_clause_102 rfl ?_
      refine z_callV F (c_misGood F2 G1 A1 B e2 hle2 hS2.2.1) 0 rfl (lw_V q1804 q1806 qs54 q117 q1807) (by decide +kernel) ⟨Nat.le_of_ble_eq_true rfl, Nat.le_of_ble_eq_true rfl⟩ ⟨by omega, by omega⟩ [0, 1] 2 ⟨rfl, rfl, rfl, ⟨Or.inl rfl, Or.inr rfl, trivial⟩⟩ (fun h => nomatch h) (Nat.le_of_ble_eq_true rfl) ⟨⟨Or.inr trivial, Or.inl rfl, trivial⟩, rfl, rfl, rfl, Nat.le_of_ble_eq_true rfl⟩ rfl zC6 (zat_G0 rfl) rfl dX6_clause_103 (fun r_103 w_103 hp => ?_) (fun _ _ h => h.elim)
      obtain ⟨rfl, rfl⟩ := hp
      refine z_weq (w' := [zH, zG _ _ _ _]) rfl ?_
      refine z_seq (S' := zi _ :: _) rfl ?_
      refine z_if_neB F (tgt := 110) dX6_clause_106 (by decide) (fun c_106 => ?_) (fun c_106 => ?_)
      · exact absurd (of_decide_eq_true c_106) hne
      · exact z_vret F E rfl dX6_clause_109 (by omega) (by omega) (⟨rfl, F2, G1, A1, rfl, by rw [hc2]; exact hS2, fun w => by rw [hc2] at w; exact absurd w hne, kF2, kG, kA.to (by decide)⟩)
    by_cases e0 : e = 0
    · subst e0
      have hS1 : RS tb z F1 G1 0 b1 := hS1
      refine z_aload_n F dX6_clause_82 rfl ?_
      refine z_callV F (c_misGood F1 G1 A1 B 0 (by omega) hS1.2.1) 0 rfl (lw_V q1804 q1806 qs54 q117 q1807) (by decide +kernel) ⟨Nat.le_of_ble_eq_true rfl, Nat.le_of_ble_eq_true rfl⟩ ⟨by omega, by omega⟩ [0, 1] 2 ⟨rfl, rfl, rfl, ⟨Or.inl rfl, Or.inr rfl, trivial⟩⟩ (fun h => nomatch h) (Nat.le_of_ble_eq_true rfl) ⟨⟨Or.inr trivial, Or.inl rfl, trivial⟩, rfl, rfl, rfl, Nat.le_of_ble_eq_true rfl⟩ rfl zC6 (zat_G0 rfl) rfl dX6_clause_83 (fun r_83 w_83 hp => ?_) (fun _ _ h => h.elim)
      obtain ⟨rfl, rfl⟩ := hp
      refine z_weq (w' := [zH, zG _ _ _ _]) rfl ?_
      refine z_seq (S' := zi _ :: _) rfl ?_
      refine z_if_eqB F (tgt := 102) dX6_clause_86 (by decide) (fun c_86 => ?_) (fun c_86 => ?_)
      · cases c_86
      · refine z_aload_n F dX6_clause_89 rfl ?_
        refine z_mi F rfl 13 rfl (Nat.le_of_ble_eq_true rfl) rfl q1493 dX6_clause_90 ?_
        refine z_ieq (hS1.1.2.2.1) ?_
        refine z_iconst F (nI 3) dX6_clause_93 rfl ?_
        refine z_icmp_eqN F (by omega) (by omega) (tgt := 102) dX6_clause_94 (by decide) (fun c_94 => ?_) (fun c_94 => ?_)
        · refine z_aload_n F dX6_clause_102 rfl ?_
          refine z_callV F (c_misGood F1 G1 A1 B 0 (by omega) hS1.2.1) 0 rfl (lw_V q1804 q1806 qs54 q117 q1807) (by decide +kernel) ⟨Nat.le_of_ble_eq_true rfl, Nat.le_of_ble_eq_true rfl⟩ ⟨by omega, by omega⟩ [0, 1] 2 ⟨rfl, rfl, rfl, ⟨Or.inl rfl, Or.inr rfl, trivial⟩⟩ (fun h => nomatch h) (Nat.le_of_ble_eq_true rfl) ⟨⟨Or.inr trivial, Or.inl rfl, trivial⟩, rfl, rfl, rfl, Nat.le_of_ble_eq_true rfl⟩ rfl zC6 (zat_G0 rfl) rfl dX6_clause_103 (fun r_103 w_103 hp => ?_) (fun _ _ h => h.elim)
          obtain ⟨rfl, rfl⟩ := hp
          refine z_weq (w' := [zH, zG _ _ _ _]) rfl ?_
          refine z_seq (S' := zi _ :: _) rfl ?_
          refine z_if_neB F (tgt := 110) dX6_clause_106 (by decide) (fun c_106 => ?_) (fun c_106 => ?_)
          · exact lines b1 m l hs (by omega) F1 G1 A1 ⟨hS1, g19, gA, fun g q => by cases q; exact fun k hk => by rw [kA.at 6 rfl]; exact hA k hk, kF, kG, kA.to (by decide)⟩
          · cases c_106
        · refine z_aload_n F dX6_clause_97 rfl ?_
          refine z_iconst F (nI 1) dX6_clause_98 rfl ?_
          refine z_callV F (c_mwrong F1 G1 A1 B tb z 0 b1 1 (by omega) hS1 (by decide)) 1 rfl (lw_V q1808 q1810 qs55 q117 q1811) (by decide +kernel) ⟨Nat.le_of_ble_eq_true rfl, Nat.le_of_ble_eq_true rfl⟩ ⟨by omega, by omega⟩ [0, 1] 2 ⟨rfl, rfl, rfl, ⟨Or.inl rfl, Or.inr rfl, trivial⟩⟩ (fun h => nomatch h) (Nat.le_of_ble_eq_true rfl) ⟨⟨Or.inr trivial, Or.inl rfl, trivial⟩, rfl, rfl, rfl, Nat.le_of_ble_eq_true rfl⟩ rfl zC6 (zat_G0 rfl) rfl dX6_clause_99 (fun r_99 w_99 hp => ?_) (fun _ _ h => h.elim)
          obtain ⟨rfl, F2, rfl, k1, k2⟩ := hp
          rw [if_pos rfl] at k1
          refine z_weq (w' := [zH, zG _ _ _ _]) rfl ?_
          refine z_seq (S' := []) rfl ?_
          exact end_ F2 1 (by omega) (by omega) (by rw [hcl, hs]; unfold clE; rw [if_neg (fun w => w rfl), if_pos (show kd tb z b1 ≠ 3 by omega)]) k1 (kF.tr k2 (by decide) (by decide))
    · skip
      refine z_aload_n F dX6_clause_82 rfl ?_
      refine z_callV F (c_misGood F1 G1 A1 B e hle hS1.2.1) 0 rfl (lw_V q1804 q1806 qs54 q117 q1807) (by decide +kernel) ⟨Nat.le_of_ble_eq_true rfl, Nat.le_of_ble_eq_true rfl⟩ ⟨by omega, by omega⟩ [0, 1] 2 ⟨rfl, rfl, rfl, ⟨Or.inl rfl, Or.inr rfl, trivial⟩⟩ (fun h => nomatch h) (Nat.le_of_ble_eq_true rfl) ⟨⟨Or.inr trivial, Or.inl rfl, trivial⟩, rfl, rfl, rfl, Nat.le_of_ble_eq_true rfl⟩ rfl zC6 (zat_G0 rfl) rfl dX6_clause_83 (fun r_83 w_83 hp => ?_) (fun _ _ h => h.elim)
      obtain ⟨rfl, rfl⟩ := hp
      refine z_weq (w' := [zH, zG _ _ _ _]) rfl ?_
      refine z_seq (S' := zi _ :: _) rfl ?_
      refine z_if_eqB F (tgt := 102) dX6_clause_86 (by decide) (fun c_86 => ?_) (fun c_86 => ?_)
      · exact end_ F1 e e0 hle (by rw [hcl, hs]; unfold clE; rw [if_pos (show e ≠ 0 from e0)]) hS1 kF
      · exact absurd (of_decide_eq_true c_86) e0
  -- no more knots: a fault, or a line goes off
  have bad55 : ∀ (F1 : Nat → Int32) (G1 : Nat → Int64) (A1 : Nat → Nat → Int32) (s : kS), clK tb z n i b = s → s.1 ≠ 0 → s.1 ≤ 6 → RS tb z F1 G1 s.1 s.2.1 → F1 19 = nI s.2.2.2 → (∀ k, k < s.2.2.2 → A1 18 k = nI (s.2.2.1 k)) → frm LF F0 F1 → frm [17] G0 G1 → frm [18] A0 A1 → Z X [some (zr 1 0), none, some (zi (nI i)), none, none] [] [zH, zG F1 G1 A1 B] 0 0 55 := by
    intro F1 G1 A1 s hs hne hle hS1 g19 gA kF kG kA
    refine z_aload_n F dX6_clause_55 rfl ?_
    refine z_callV F (c_misGood F1 G1 A1 B s.1 hle hS1.2.1) 0 rfl (lw_V q1804 q1806 qs54 q117 q1807) (by decide +kernel) ⟨Nat.le_of_ble_eq_true rfl, Nat.le_of_ble_eq_true rfl⟩ ⟨by omega, by omega⟩ [0, 1] 2 ⟨rfl, rfl, rfl, ⟨Or.inl rfl, Or.inr rfl, trivial⟩⟩ (fun h => nomatch h) (Nat.le_of_ble_eq_true rfl) ⟨⟨Or.inr trivial, Or.inl rfl, trivial⟩, rfl, rfl, rfl, Nat.le_of_ble_eq_true rfl⟩ rfl zC6 (zat_G0 rfl) rfl dX6_clause_56 (fun r_56 w_56 hp => ?_) (fun _ _ h => h.elim)
    obtain ⟨rfl, rfl⟩ := hp
    refine z_weq (w' := [zH, zG _ _ _ _]) rfl ?_
    refine z_seq (S' := zi _ :: _) rfl ?_
    refine z_if_eqB F (tgt := 82) dX6_clause_59 (by decide) (fun c_59 => ?_) (fun c_59 => ?_)
    · exact at82 F1 G1 A1 s hs hS1 g19 gA kF kG kA
    · exact absurd (of_decide_eq_true c_59) hne
  have off55 : i = 4 → ∀ (F1 : Nat → Int32) (G1 : Nat → Int64) (A1 : Nat → Nat → Int32) (s : kS), clK tb z n i b = s → s.1 ≤ 6 → RS tb z F1 G1 s.1 s.2.1 → F1 19 = nI s.2.2.2 → (∀ k, k < s.2.2.2 → A1 18 k = nI (s.2.2.1 k)) → frm LF F0 F1 → frm [17] G0 G1 → frm [18] A0 A1 → Z X [some (zr 1 0), none, some (zi (nI i)), none, none] [] [zH, zG F1 G1 A1 B] 0 0 55 := by
    intro q4 F1 G1 A1 s hs hle hS1 g19 gA kF kG kA
    refine z_aload_n F dX6_clause_55 rfl ?_
    refine z_callV F (c_misGood F1 G1 A1 B s.1 hle hS1.2.1) 0 rfl (lw_V q1804 q1806 qs54 q117 q1807) (by decide +kernel) ⟨Nat.le_of_ble_eq_true rfl, Nat.le_of_ble_eq_true rfl⟩ ⟨by omega, by omega⟩ [0, 1] 2 ⟨rfl, rfl, rfl, ⟨Or.inl rfl, Or.inr rfl, trivial⟩⟩ (fun h => nomatch h) (Nat.le_of_ble_eq_true rfl) ⟨⟨Or.inr trivial, Or.inl rfl, trivial⟩, rfl, rfl, rfl, Nat.le_of_ble_eq_true rfl⟩ rfl zC6 (zat_G0 rfl) rfl dX6_clause_56 (fun r_56 w_56 hp => ?_) (fun _ _ h => h.elim)
    obtain ⟨rfl, rfl⟩ := hp
    refine z_weq (w' := [zH, zG _ _ _ _]) rfl ?_
    refine z_seq (S' := zi _ :: _) rfl ?_
    refine z_if_eqB F (tgt := 82) dX6_clause_59 (by decide) (fun c_59 => ?_) (fun c_59 => ?_)
    · exact at82 F1 G1 A1 s hs hS1 g19 gA kF kG kA
    · refine z_iload_n F dX6_clause_62 rfl ?_
      refine z_iconst F (nI 4) dX6_clause_63 rfl ?_
      refine z_icmp_eqN F (by omega) (by omega) (tgt := 82) dX6_clause_64 (by decide) (fun c_64 => ?_) (fun c_64 => ?_)
      · exact at82 F1 G1 A1 s hs hS1 g19 gA kF kG kA
      · exact absurd c_64 (by omega)
  -- further knots
  have more_ : i ≠ 4 → ∀ (u : Nat) (F1 : Nat → Int32) (G1 : Nat → Int64) (A1 : Nat → Nat → Int32) (s : kS), clK tb z n i b = knL tb z n u s → 13 ≤ u + s.2.2.2 → s.2.1 ≤ z → lok n s.2.2.1 s.2.2.2 → s.1 ≤ 6 → RS tb z F1 G1 s.1 s.2.1 → F1 19 = nI s.2.2.2 → (∀ k, k < s.2.2.2 → A1 18 k = nI (s.2.2.1 k)) → frm LF F0 F1 → frm [17] G0 G1 → frm [18] A0 A1 → Z X [some (zr 1 0), none, some (zi (nI i)), none, none] [] [zH, zG F1 G1 A1 B] 0 0 55 := by
    intro q4 u
    induction u with
    | zero => intro F1 G1 A1 s hs hu hbz hlo; have := hlo.2.2; omega
    | succ u ih =>
      intro F1 G1 A1 s hs hu hbz hlo hle hS1 g19 gA kF kG kA
      obtain ⟨e, b1, l, m⟩ := s
      have hkd := kd_lt tb z b1
      have hstop : ¬ (e = 0 ∧ kd tb z b1 = 2) → clK tb z n i b = (e, b1, l, m) := fun w => by rw [hs]; exact knL_bad w (u + 1)
      have hgo : e = 0 ∧ kd tb z b1 = 2 → clK tb z n i b = knL tb z n u (kn1 tb z n (e, b1, l, m)) := fun w => by rw [hs, knL, if_pos w]
      have hmm : e = 0 ∧ kd tb z b1 = 2 → 13 ≤ u + (kn1 tb z n (e, b1, l, m)).2.2.2 ∨ (kn1 tb z n (e, b1, l, m)).1 ≠ 0 := fun w => by
        by_cases q : (kn1 tb z n (e, b1, l, m)).1 = 0
        · have := (kn1_m q).2
          exact Or.inl (by rw [this]; show 13 ≤ u + (m + 1); have : 13 ≤ u + 1 + m := hu; omega)
        · exact Or.inr q
      obtain ⟨w1, w2, w3⟩ := kn1_ok (tb := tb) (z := z) (n := n) (s := (e, b1, l, m)) hbz hlo hle
      by_cases e0 : e = 0
      · subst e0
        have hS1 : RS tb z F1 G1 0 b1 := hS1
        refine z_aload_n F dX6_clause_55 rfl ?_
        refine z_callV F (c_misGood F1 G1 A1 B 0 (by omega) hS1.2.1) 0 rfl (lw_V q1804 q1806 qs54 q117 q1807) (by decide +kernel) ⟨Nat.le_of_ble_eq_true rfl, Nat.le_of_ble_eq_true rfl⟩ ⟨by omega, by omega⟩ [0, 1] 2 ⟨rfl, rfl, rfl, ⟨Or.inl rfl, Or.inr rfl, trivial⟩⟩ (fun h => nomatch h) (Nat.le_of_ble_eq_true rfl) ⟨⟨Or.inr trivial, Or.inl rfl, trivial⟩, rfl, rfl, rfl, Nat.le_of_ble_eq_true rfl⟩ rfl zC6 (zat_G0 rfl) rfl dX6_clause_56 (fun r_56 w_56 hp => ?_) (fun _ _ h => h.elim)
        obtain ⟨rfl, rfl⟩ := hp
        refine z_weq (w' := [zH, zG _ _ _ _]) rfl ?_
        refine z_seq (S' := zi _ :: _) rfl ?_
        refine z_if_eqB F (tgt := 82) dX6_clause_59 (by decide) (fun c_59 => ?_) (fun c_59 => ?_)
        · cases c_59
        · refine z_iload_n F dX6_clause_62 rfl ?_
          refine z_iconst F (nI 4) dX6_clause_63 rfl ?_
          refine z_icmp_eqN F (by omega) (by omega) (tgt := 82) dX6_clause_64 (by decide) (fun c_64 => ?_) (fun c_64 => ?_)
          · exact absurd c_64 (by omega)
          · refine z_aload_n F dX6_clause_67 rfl ?_
            refine z_mi F rfl 13 rfl (Nat.le_of_ble_eq_true rfl) rfl q1493 dX6_clause_68 ?_
            refine z_ieq (hS1.1.2.2.1) ?_
            refine z_iconst F (nI 2) dX6_clause_71 rfl ?_
            refine z_icmp_neN F (by omega) (by omega) (tgt := 82) dX6_clause_72 (by decide) (fun c_72 => ?_) (fun c_72 => ?_)
            · exact at82 F1 G1 A1 _ (hstop (fun w => absurd w.2 (by omega))) hS1 g19 gA kF kG kA
            · refine z_aload_n F dX6_clause_75 rfl ?_
              refine z_callV F (c_mknot F1 G1 A1 B tb z n 0 b1 m l hz hbz htb (fun i hi => by rw [kA.at 7 rfl]; exact ht i hi) (by omega) hS1 ((kF.at 4 rfl).trans h4) hn hlo g19 gA) 0 rfl (lw_V q1820 q1822 qs58 q117 q1823) (by decide +kernel) ⟨Nat.le_of_ble_eq_true rfl, Nat.le_of_ble_eq_true rfl⟩ ⟨by omega, by omega⟩ [0, 1] 2 ⟨rfl, rfl, rfl, ⟨Or.inl rfl, Or.inr rfl, trivial⟩⟩ (fun h => nomatch h) (Nat.le_of_ble_eq_true rfl) ⟨⟨Or.inr trivial, Or.inl rfl, trivial⟩, rfl, rfl, rfl, Nat.le_of_ble_eq_true rfl⟩ rfl zC6 (zat_G0 rfl) rfl dX6_clause_76 (fun r_76 w_76 hp => ?_) (fun _ _ h => h.elim)
              obtain ⟨rfl, F2, G2, A2, rfl, m1, m2, m3, m4, m5, m6⟩ := hp
              refine z_weq (w' := [zH, zG _ _ _ _]) rfl ?_
              refine z_seq (S' := []) rfl ?_
              refine z_goto F (tgt := 55) dX6_clause_79 (by decide) ?_
              rcases hmm ⟨rfl, by omega⟩ with v | v
              · exact ih F2 G2 A2 _ (hgo ⟨rfl, by omega⟩) v w1 w2 w3 m1 m2 m3 (kF.tr m4 (by decide) (by decide)) (kG.tr m5 (by decide) (by decide)) (kA.tr m6 (by decide) (by decide))
              · have hcK : clK tb z n i b = kn1 tb z n (0, b1, l, m) := by rw [hgo ⟨rfl, by omega⟩]; exact knL_bad (fun y => v y.1) u
                exact bad55 F2 G2 A2 _ hcK v w3 m1 m2 m3 (kF.tr m4 (by decide) (by decide)) (kG.tr m5 (by decide) (by decide)) (kA.tr m6 (by decide) (by decide))
      · exact bad55 F1 G1 A1 _ (hstop (fun w => e0 w.1)) e0 hle hS1 g19 gA kF kG kA
  -- two knots
  have two : ∀ (F1 : Nat → Int32) (G1 : Nat → Int64), RS tb z F1 G1 0 (nb tb z b) → frm LF F0 F1 → frm [17] G0 G1 → Z X [some (zr 1 0), none, some (zi (nI i)), none, none] [] [zH, zG F1 G1 A0 B] 0 0 42 := by
    intro F1 G1 hS1 kF kG
    obtain ⟨w1, w2, w3⟩ := kn1_ok (tb := tb) (z := z) (n := n) (s := (0, nb tb z b, fun _ => 0, 0)) (nb_le hb) (lok_0 n _) (by show 0 ≤ 6; omega)
    obtain ⟨v1, v2, v3⟩ := kn1_ok (tb := tb) (z := z) (n := n) w1 w2 w3
    refine z_aload_n F dX6_clause_42 rfl ?_
    refine z_iconst F (nI 0) dX6_clause_43 rfl ?_
    refine z_pmi F rfl 19 rfl (Nat.le_of_ble_eq_true rfl) rfl q1499 rfl rfl rfl dX6_clause_44 ?_
    refine z_weq (w' := [_, _]) rfl ?_
    refine z_aload_n F dX6_clause_47 rfl ?_
    refine z_callV F (c_mknot (upd F1 19 (nI 0)) G1 A0 B tb z n 0 (nb tb z b) 0 (fun _ => 0) hz (nb_le hb) htb ht (by omega) hS1 ((kF.at 4 rfl).trans h4) hn (lok_0 n _) rfl (fun k hk => absurd hk (by omega))) 0 rfl (lw_V q1820 q1822 qs58 q117 q1823) (by decide +kernel) ⟨Nat.le_of_ble_eq_true rfl, Nat.le_of_ble_eq_true rfl⟩ ⟨by omega, by omega⟩ [0, 1] 2 ⟨rfl, rfl, rfl, ⟨Or.inl rfl, Or.inr rfl, trivial⟩⟩ (fun h => nomatch h) (Nat.le_of_ble_eq_true rfl) ⟨⟨Or.inr trivial, Or.inl rfl, trivial⟩, rfl, rfl, rfl, Nat.le_of_ble_eq_true rfl⟩ rfl zC6 (zat_G0 rfl) rfl dX6_clause_48 (fun r_48 w_48 hp => ?_) (fun _ _ h => h.elim)
    obtain ⟨rfl, F2, G2, A2, rfl, m1, m2, m3, m4, m5, m6⟩ := hp
    refine z_weq (w' := [zH, zG _ _ _ _]) rfl ?_
    refine z_seq (S' := []) rfl ?_
    refine z_aload_n F dX6_clause_51 rfl ?_
    refine z_callV F (c_mknot F2 G2 A2 B tb z n _ _ _ _ hz w1 htb (fun i hi => by rw [m6.at 7 rfl]; exact ht i hi) w3 m1 ((m4.at 4 rfl).trans ((kF.at 4 rfl).trans h4)) hn w2 m2 m3) 0 rfl (lw_V q1820 q1822 qs58 q117 q1823) (by decide +kernel) ⟨Nat.le_of_ble_eq_true rfl, Nat.le_of_ble_eq_true rfl⟩ ⟨by omega, by omega⟩ [0, 1] 2 ⟨rfl, rfl, rfl, ⟨Or.inl rfl, Or.inr rfl, trivial⟩⟩ (fun h => nomatch h) (Nat.le_of_ble_eq_true rfl) ⟨⟨Or.inr trivial, Or.inl rfl, trivial⟩, rfl, rfl, rfl, Nat.le_of_ble_eq_true rfl⟩ rfl zC6 (zat_G0 rfl) rfl dX6_clause_52 (fun r_52 w_52 hp => ?_) (fun _ _ h => h.elim)
    obtain ⟨rfl, F3, G3, A3, rfl, u1, u2, u3, u4, u5, u6⟩ := hp
    refine z_weq (w' := [zH, zG _ _ _ _]) rfl ?_
    refine z_seq (S' := []) rfl ?_
    have kF3 : frm LF F0 F3 := ((frm_upd kF (by decide)).tr m4 (l2 := LF) (by decide) (by decide)).tr u4 (by decide) (by decide)
    have kG3 : frm [17] G0 G3 := (kG.tr m5 (l2 := [17]) (by decide) (by decide)).tr u5 (by decide) (by decide)
    have kA3 : frm [18] A0 A3 := m6.tr u6 (by decide) (by decide)
    by_cases q4 : i = 4
    · have hcK : clK tb z n i b = kn1 tb z n (kn1 tb z n (0, nb tb z b, fun _ => 0, 0)) := if_pos q4
      exact off55 q4 F3 G3 A3 _ hcK v3 u1 u2 u3 kF3 kG3 kA3
    · have hcK : clK tb z n i b = knL tb z n 11 (kn1 tb z n (kn1 tb z n (0, nb tb z b, fun _ => 0, 0))) := if_neg q4
      by_cases e2 : (kn1 tb z n (kn1 tb z n (0, nb tb z b, fun _ => 0, 0))).1 = 0
      · obtain ⟨a1, a2⟩ := kn1_m e2
        obtain ⟨-, a3⟩ := kn1_m a1
        exact more_ q4 11 F3 G3 A3 _ hcK (by rw [a2, a3]; decide) v1 v2 v3 u1 u2 u3 kF3 kG3 kA3
      · exact bad55 F3 G3 A3 _ (by rw [hcK]; exact knL_bad (fun y => e2 y.1) 11) e2 v3 u1 u2 u3 kF3 kG3 kA3
  refine z_aload_n F dX6_clause_0 rfl ?_
  refine z_callV F (c_mknown F0 G0 A0 B tb z b hz hb hS.1) 0 rfl (lw_V q1793 q1795 qs52 q117 q1796) (by decide +kernel) ⟨Nat.le_of_ble_eq_true rfl, Nat.le_of_ble_eq_true rfl⟩ ⟨by omega, by omega⟩ [0, 1] 2 ⟨rfl, rfl, rfl, ⟨Or.inl rfl, Or.inr rfl, trivial⟩⟩ (fun h => nomatch h) (Nat.le_of_ble_eq_true rfl) ⟨⟨Or.inr trivial, Or.inl rfl, trivial⟩, rfl, rfl, rfl, Nat.le_of_ble_eq_true rfl⟩ rfl zC6 (zat_G0 rfl) rfl dX6_clause_1 (fun r_1 w_1 hp => ?_) (fun _ _ h => h.elim)
  obtain ⟨rfl, rfl⟩ := hp
  rw [ekw]
  refine z_weq (w' := [zH, zG _ _ _ _]) rfl ?_
  refine z_seq (S' := zi _ :: _) rfl ?_
  refine z_istore_n F dX6_clause_4 (Nat.le_of_ble_eq_true rfl) ?_
  refine z_leq (L' := [_, _, _, _, _]) rfl ?_
  refine z_iload_n F dX6_clause_5 rfl ?_
  refine z_if_ltN F (by omega) (tgt := 14) dX6_clause_6 (by decide) (fun c_6 => ?_) (fun c_6 => ?_)
  · exact absurd c_6 (by omega)
  · refine z_iload_n F dX6_clause_9 rfl ?_
    refine z_iconst F (nI 4) dX6_clause_10 rfl ?_
    refine z_icmp_leN F (by omega) (by omega) (tgt := 19) dX6_clause_11 (by decide) (fun c_11 => ?_) (fun c_11 => ?_)
    · refine z_iload_n F dX6_clause_19 rfl ?_
      refine z_bipush F (nI 20) dX6_clause_20 rfl ?_
      refine z_icmp_neN F (by omega) (by omega) (tgt := 30) dX6_clause_22 (by decide) (fun c_22 => ?_) (fun c_22 => ?_)
      · refine z_aload_n F dX6_clause_30 rfl ?_
        refine z_callV F (c_misGood F0 G0 A0 B 0 (by omega) hS.2.1) 0 rfl (lw_V q1804 q1806 qs54 q117 q1807) (by decide +kernel) ⟨Nat.le_of_ble_eq_true rfl, Nat.le_of_ble_eq_true rfl⟩ ⟨by omega, by omega⟩ [0, 1] 2 ⟨rfl, rfl, rfl, ⟨Or.inl rfl, Or.inr rfl, trivial⟩⟩ (fun h => nomatch h) (Nat.le_of_ble_eq_true rfl) ⟨⟨Or.inr trivial, Or.inl rfl, trivial⟩, rfl, rfl, rfl, Nat.le_of_ble_eq_true rfl⟩ rfl zC6 (zat_G0 rfl) rfl dX6_clause_31 (fun r_31 w_31 hp => ?_) (fun _ _ h => h.elim)
        obtain ⟨rfl, rfl⟩ := hp
        refine z_weq (w' := [zH, zG _ _ _ _]) rfl ?_
        refine z_seq (S' := zi _ :: _) rfl ?_
        refine z_if_neB F (tgt := 38) dX6_clause_34 (by decide) (fun c_34 => ?_) (fun c_34 => ?_)
        · refine z_aload_n F dX6_clause_38 rfl ?_
          refine z_callV F (c_mrdGo F0 G0 A0 B tb z (en tb z b) hz ((en_ge tb z b).2 hb) htb hS.1.1 hS.1.2.1 ht) 0 rfl (lw_V q1779 q1781 qs50 q117 q1782) (by decide +kernel) ⟨Nat.le_of_ble_eq_true rfl, Nat.le_of_ble_eq_true rfl⟩ ⟨by omega, by omega⟩ [0, 1] 2 ⟨rfl, rfl, rfl, ⟨Or.inl rfl, Or.inr rfl, trivial⟩⟩ (fun h => nomatch h) (Nat.le_of_ble_eq_true rfl) ⟨⟨Or.inr trivial, Or.inl rfl, trivial⟩, rfl, rfl, rfl, Nat.le_of_ble_eq_true rfl⟩ rfl zC6 (zat_G0 rfl) rfl dX6_clause_39 (fun r_39 w_39 hp => ?_) (fun _ _ h => h.elim)
          obtain ⟨rfl, F2, G2, rfl, m1, m2, m3⟩ := hp
          refine z_weq (w' := [zH, zG _ _ _ _]) rfl ?_
          refine z_seq (S' := []) rfl ?_
          refine z_loc _ ?_ (two F2 G2 ⟨m1, by rw [m2.at 9 rfl]; exact hS.2.1, fun w => absurd rfl w, fun _ => (m2.at 10 rfl).trans (hS.2.2.2 rfl)⟩ (m2.to (by decide)) m3)
          exact ⟨rfl, rfl, trivial⟩
        · cases c_34
      · exact absurd c_22 hc20
    · exact absurd c_11 (by omega)
end C9yw
end
section
/-! read: the reference's operation -/
section C9yx
theorem RS_cong {tb : Nat → Nat} {z e b : Nat} {F F' : Nat → Int32} {G : Nat → Int64} (h : RS tb z F G e b) (m : frm [4, 5] F F') : RS tb z F' G e b :=
  ⟨⟨(m.at 11 rfl).trans h.1.1, (m.at 12 rfl).trans h.1.2.1, (m.at 13 rfl).trans h.1.2.2.1, (m.at 14 rfl).trans h.1.2.2.2.1, (m.at 15 rfl).trans h.1.2.2.2.2.1, (m.at 16 rfl).trans h.1.2.2.2.2.2.1, h.1.2.2.2.2.2.2⟩, (m.at 9 rfl).trans h.2.1, fun w => (m.at 10 rfl).trans (h.2.2.1 w), fun w => (m.at 10 rfl).trans (h.2.2.2 w)⟩
theorem kwR_is {tb : Nat → Nat} {z b i : Nat} (hi : i < 7) : kwR tb z b = nI i ↔ isWb tb z b i = true := by
  unfold kwR
  cases h : kwI tb z b with
  | none =>
    rw [kwI_none h hi]
    constructor
    · intro e; exact absurd e ((by decide : ∀ i, i < 7 → ¬ (-1 : Int32) = nI i) i hi)
    · intro e; cases e
  | some j =>
    rw [kwI_b h hi, decide_eq_true_eq]
    have hj := (kwI_some.mp h).1
    constructor
    · intro e; exact ((by decide : ∀ j, j < 7 → ∀ i, i < 7 → nI j = nI i → i = j) j hj i hi e)
    · intro e; rw [e]; rfl
abbrev RF : List Nat := [0, 4, 5, 8, 9, 10, 11, 12, 13, 14, 15, 16, 19]
theorem c_mread (F0 : Nat → Int32) (G0 : Nat → Int64) (A0 : Nat → Nat → Int32) (B : Nat → Nat → Int64) (tb : Nat → Nat) (z t j : Nat) (hj : j < 8) (hzt : z ≤ t) (ht4 : t ≤ 400) (h8 : F0 8 = nI t) (htb : ∀ i, tb i < 256) (ht : ∀ i, i < z → A0 7 i = nI (tb i)) : zCtr yX6_read cX6_read 6 (some .int) 4 0 0 [zr 1 0, zi (nI j), zi (nI z)] [zH, zG F0 G0 A0 B] (fun r w => ∃ F' G' A', w = [zH, zG F' G' A' B] ∧ F' 0 = nI 0 ∧ F' 8 = nI 0 ∧ frm RF F0 F' ∧ frm [17] G0 G' ∧ frm [1, 2, 3, 6, 18] A0 A' ∧ (∀ e b, rdS tb z = .inl (e, b) → r = some (zi (nI e)) ∧ F' 10 = nI b ∧ ∀ i, i < 8 → SltEq A0 A' i) ∧ (∀ n d f, rdS tb z = .inr (n, d, f) → r = some (zi (nI 0)) ∧ F' 10 = -1 ∧ Slt A' j n (nI d) f ∧ ∀ i, i < 8 → i ≠ j → SltEq A0 A' i)) zNx := by
  refine z_start (by decide) [some (zr 1 0), some (zi (nI j)), some (zi (nI z)), none, none, none] rfl (fun _ => Nat.le_of_ble_eq_true rfl) (fun _ => rfl) (fun X F E hno hin => ?_)
  have hz : z ≤ 400 := by omega
  obtain ⟨q1o, q2o, q3o, q4o, q5o⟩ := rq_ok tb z
  have fin : ∀ (F1 : Nat → Int32) (G1 : Nat → Int64) (A1 : Nat → Nat → Int32) (e b n d : Nat) (f : Nat → Int32), RS tb z F1 G1 e b → e ≤ 6 → (e ≠ 0 → rdS tb z = .inl (e, b)) → (e = 0 → rdS tb z = .inr (n, d, f) ∧ Lay F1 A1 n (nI d) f) → F1 0 = nI 0 → F1 8 = nI 0 → frm RF F0 F1 → frm [17] G0 G1 → frm [6, 18] A0 A1 → Z X [some (zr 1 0), some (zi (nI j)), none, none, none, none] [] [zH, zG F1 G1 A1 B] 0 0 178 := by
    intro F1 G1 A1 e b n d f hS he hbad hgood f0 f8 kF kG kA
    by_cases e0 : e = 0
    · obtain ⟨hr, hl⟩ := hgood e0
      refine z_aload_n F dX6_read_178 rfl ?_
      refine z_callV F (c_misGood F1 G1 A1 B e he hS.2.1) 0 rfl (lw_V q1804 q1806 qs54 q117 q1807) (by decide +kernel) ⟨Nat.le_of_ble_eq_true rfl, Nat.le_of_ble_eq_true rfl⟩ ⟨by omega, by omega⟩ [0, 1] 2 ⟨rfl, rfl, rfl, ⟨Or.inl rfl, Or.inr rfl, trivial⟩⟩ (fun h => nomatch h) (Nat.le_of_ble_eq_true rfl) ⟨⟨Or.inr trivial, Or.inl rfl, trivial⟩, rfl, rfl, rfl, Nat.le_of_ble_eq_true rfl⟩ rfl zC6 (zat_G0 rfl) rfl dX6_read_179 (fun r_179 w_179 hp => ?_) (fun _ _ h => h.elim)
      obtain ⟨rfl, rfl⟩ := hp
      refine z_weq (w' := [zH, zG _ _ _ _]) rfl ?_
      refine z_seq (S' := zi _ :: _) rfl ?_
      refine z_if_eqB F (tgt := 190) dX6_read_182 (by decide) (fun c_182 => ?_) (fun c_182 => ?_)
      · exact absurd e0 (of_decide_eq_false c_182)
      · refine z_aload_n F dX6_read_185 rfl ?_
        refine z_iload_n F dX6_read_186 rfl ?_
        refine z_callV F (c_keeps F1 G1 A1 B j n (nI d) f hj hl) 1 rfl (lw_V q1724 q1726 qs41 q117 q1727) (by decide +kernel) ⟨Nat.le_of_ble_eq_true rfl, Nat.le_of_ble_eq_true rfl⟩ ⟨by omega, by omega⟩ [0, 1] 2 ⟨rfl, rfl, rfl, ⟨Or.inl rfl, Or.inr rfl, trivial⟩⟩ (fun h => nomatch h) (Nat.le_of_ble_eq_true rfl) ⟨⟨Or.inr trivial, Or.inl rfl, trivial⟩, rfl, rfl, rfl, Nat.le_of_ble_eq_true rfl⟩ rfl zC6 (zat_G0 rfl) rfl dX6_read_187 (fun r_187 w_187 hp => ?_) (fun _ _ h => h.elim)
        obtain ⟨rfl, A2, rfl, g1, g2, g3⟩ := hp
        refine z_weq (w' := [zH, zG _ _ _ _]) rfl ?_
        refine z_seq (S' := []) rfl ?_
        refine z_aload_n F dX6_read_190 rfl ?_
        refine z_mi F rfl 9 rfl (Nat.le_of_ble_eq_true rfl) rfl q1489 dX6_read_191 ?_
        refine z_ieq (hS.2.1) ?_
        exact z_iret F E rfl dX6_read_194 (by omega) (by omega) (⟨F1, G1, A2, rfl, f0, f8, kF, kG, kA.tr g1 (by decide) (by decide), fun e' b' w => by rw [hr] at w; cases w, fun n' d' f' w => by
  rw [hr] at w
  cases w
  exact ⟨by rw [e0], hS.2.2.2 e0, g2, fun i hi hne => (SltEq.of6 kA ⟨by decide, by decide, by decide⟩).tr (g3 i hi hne)⟩⟩)
    · have hr := hbad e0
      refine z_aload_n F dX6_read_178 rfl ?_
      refine z_callV F (c_misGood F1 G1 A1 B e he hS.2.1) 0 rfl (lw_V q1804 q1806 qs54 q117 q1807) (by decide +kernel) ⟨Nat.le_of_ble_eq_true rfl, Nat.le_of_ble_eq_true rfl⟩ ⟨by omega, by omega⟩ [0, 1] 2 ⟨rfl, rfl, rfl, ⟨Or.inl rfl, Or.inr rfl, trivial⟩⟩ (fun h => nomatch h) (Nat.le_of_ble_eq_true rfl) ⟨⟨Or.inr trivial, Or.inl rfl, trivial⟩, rfl, rfl, rfl, Nat.le_of_ble_eq_true rfl⟩ rfl zC6 (zat_G0 rfl) rfl dX6_read_179 (fun r_179 w_179 hp => ?_) (fun _ _ h => h.elim)
      obtain ⟨rfl, rfl⟩ := hp
      refine z_weq (w' := [zH, zG _ _ _ _]) rfl ?_
      refine z_seq (S' := zi _ :: _) rfl ?_
      refine z_if_eqB F (tgt := 190) dX6_read_182 (by decide) (fun c_182 => ?_) (fun c_182 => ?_)
      · refine z_aload_n F dX6_read_190 rfl ?_
        refine z_mi F rfl 9 rfl (Nat.le_of_ble_eq_true rfl) rfl q1489 dX6_read_191 ?_
        refine z_ieq (hS.2.1) ?_
        exact z_iret F E rfl dX6_read_194 (by omega) (by omega) (⟨F1, G1, A1, rfl, f0, f8, kF, kG, kA.to (by decide), fun e' b' w => by
  rw [hr] at w
  cases w
  exact ⟨rfl, hS.2.2.1 e0, fun i hi => SltEq.of6 kA ⟨by decide, by decide, by decide⟩⟩, fun n' d' f' w => by rw [hr] at w; cases w⟩)
      · exact absurd (of_decide_eq_true c_182) e0
  have bad152 : ∀ (F1 : Nat → Int32) (G1 : Nat → Int64) (A1 : Nat → Nat → Int32) (e b c : Nat), RS tb z F1 G1 e b → e ≤ 6 → e ≠ 0 → rdS tb z = .inl (e, b) → F1 0 = nI 0 → F1 8 = nI 0 → frm RF F0 F1 → frm [17] G0 G1 → frm [6, 18] A0 A1 → Z X [some (zr 1 0), some (zi (nI j)), none, none, none, some (zi (nI c))] [] [zH, zG F1 G1 A1 B] 0 0 152 := by
    intro F1 G1 A1 e b c hS he hne hr f0 f8 kF kG kA
    refine z_aload_n F dX6_read_152 rfl ?_
    refine z_callV F (c_misGood F1 G1 A1 B e he hS.2.1) 0 rfl (lw_V q1804 q1806 qs54 q117 q1807) (by decide +kernel) ⟨Nat.le_of_ble_eq_true rfl, Nat.le_of_ble_eq_true rfl⟩ ⟨by omega, by omega⟩ [0, 1] 2 ⟨rfl, rfl, rfl, ⟨Or.inl rfl, Or.inr rfl, trivial⟩⟩ (fun h => nomatch h) (Nat.le_of_ble_eq_true rfl) ⟨⟨Or.inr trivial, Or.inl rfl, trivial⟩, rfl, rfl, rfl, Nat.le_of_ble_eq_true rfl⟩ rfl zC6 (zat_G0 rfl) rfl dX6_read_153 (fun r_153 w_153 hp => ?_) (fun _ _ h => h.elim)
    obtain ⟨rfl, rfl⟩ := hp
    refine z_weq (w' := [zH, zG _ _ _ _]) rfl ?_
    refine z_seq (S' := zi _ :: _) rfl ?_
    refine z_if_eqB F (tgt := 178) dX6_read_156 (by decide) (fun c_156 => ?_) (fun c_156 => ?_)
    · refine z_loc _ ?_ (fin F1 G1 A1 e b 0 0 (fun _ => 0) hS he (fun _ => hr) (fun w => absurd w hne) f0 f8 kF kG kA)
      exact ⟨rfl, rfl, trivial⟩
    · exact absurd (of_decide_eq_true c_156) hne
  have loop : ∀ (n d : Nat), n = rqN tb z → d = rqD tb z → (rq5 tb z).1 = 0 → ∀ (u c : Nat) (F1 : Nat → Int32) (G1 : Nat → Int64) (A1 : Nat → Nat → Int32) (b : Nat) (f : Nat → Int32), u + c = 22 → c ≤ 20 → b ≤ z → nok n d f → Lay F1 A1 n (nI d) f → RS tb z F1 G1 0 b → rqR tb z = csS tb z n d u f c b → F1 0 = nI 0 → F1 8 = nI 0 → frm RF F0 F1 → frm [17] G0 G1 → frm [6, 18] A0 A1 → Z X [some (zr 1 0), some (zi (nI j)), none, none, none, some (zi (nI c))] [] [zH, zG F1 G1 A1 B] 0 0 152 := by
    intro n d hn hd h5 u
    induction u with
    | zero => intro c F1 G1 A1 b f hu hc; omega
    | succ u ih =>
      intro c F1 G1 A1 b f hu hc hb hf hl hS hR f0 f8 kF kG kA
      have hkd := kd_lt tb z b
      obtain ⟨w1, w2, w3⟩ := clS_ok (tb := tb) (z := z) (c := c) hf hb
      rw [csS] at hR
      have hR0 : kd tb z b = 0 → rqR tb z = (0, b, f) := fun w => by rw [hR, if_pos w]
      have hR1 : kd tb z b ≠ 0 → (clS tb z n d f c b).1 ≠ 0 → rqR tb z = clS tb z n d f c b := fun w w2 => by rw [hR, if_neg w, if_pos w2]
      have hR2 : kd tb z b ≠ 0 → (clS tb z n d f c b).1 = 0 → rqR tb z = csS tb z n d u (clS tb z n d f c b).2.2 (c + 1) (clS tb z n d f c b).2.1 := fun w w2 => by rw [hR, if_neg w, if_neg (fun q => q w2)]
      refine z_aload_n F dX6_read_152 rfl ?_
      refine z_callV F (c_misGood F1 G1 A1 B 0 (by omega) hS.2.1) 0 rfl (lw_V q1804 q1806 qs54 q117 q1807) (by decide +kernel) ⟨Nat.le_of_ble_eq_true rfl, Nat.le_of_ble_eq_true rfl⟩ ⟨by omega, by omega⟩ [0, 1] 2 ⟨rfl, rfl, rfl, ⟨Or.inl rfl, Or.inr rfl, trivial⟩⟩ (fun h => nomatch h) (Nat.le_of_ble_eq_true rfl) ⟨⟨Or.inr trivial, Or.inl rfl, trivial⟩, rfl, rfl, rfl, Nat.le_of_ble_eq_true rfl⟩ rfl zC6 (zat_G0 rfl) rfl dX6_read_153 (fun r_153 w_153 hp => ?_) (fun _ _ h => h.elim)
      obtain ⟨rfl, rfl⟩ := hp
      refine z_weq (w' := [zH, zG _ _ _ _]) rfl ?_
      refine z_seq (S' := zi _ :: _) rfl ?_
      refine z_if_eqB F (tgt := 178) dX6_read_156 (by decide) (fun c_156 => ?_) (fun c_156 => ?_)
      · cases c_156
      · refine z_aload_n F dX6_read_159 rfl ?_
        refine z_mi F rfl 13 rfl (Nat.le_of_ble_eq_true rfl) rfl q1493 dX6_read_160 ?_
        refine z_ieq (hS.1.2.2.1) ?_
        refine z_if_eqN F (by omega) (tgt := 178) dX6_read_163 (by decide) (fun c_163 => ?_) (fun c_163 => ?_)
        · have r0 := hR0 (by omega)
          refine z_loc _ ?_ (fin F1 G1 A1 0 b n d f hS (by omega) (fun w => absurd rfl w) (fun _ => ⟨by rw [rdS_R h5, r0, ← hn, ← hd]; rfl, hl⟩) f0 f8 kF kG kA)
          exact ⟨rfl, rfl, trivial⟩
        · refine z_aload_n F dX6_read_166 rfl ?_
          refine z_iload F dX6_read_167 rfl ?_
          refine z_callV F (c_mclause F1 G1 A1 B tb z n d c b f hz hb htb (fun i hi => by rw [kA.at 7 rfl]; exact ht i hi) hS hl.1 hl.2.1 hf hl.2.2 hc) 1 rfl (lw_V q1816 q1818 qs57 q117 q1819) (by decide +kernel) ⟨Nat.le_of_ble_eq_true rfl, Nat.le_of_ble_eq_true rfl⟩ ⟨by omega, by omega⟩ [0, 1] 2 ⟨rfl, rfl, rfl, ⟨Or.inl rfl, Or.inr rfl, trivial⟩⟩ (fun h => nomatch h) (Nat.le_of_ble_eq_true rfl) ⟨⟨Or.inr trivial, Or.inl rfl, trivial⟩, rfl, rfl, rfl, Nat.le_of_ble_eq_true rfl⟩ rfl zC6 (zat_G0 rfl) rfl dX6_read_169 (fun r_169 w_169 hp => ?_) (fun _ _ h => h.elim)
          obtain ⟨rfl, F2, G2, A2, rfl, m1, m2, m3, m4, m5⟩ := hp
          refine z_weq (w' := [zH, zG _ _ _ _]) rfl ?_
          refine z_seq (S' := []) rfl ?_
          refine z_iincN F 1 dX6_read_172 rfl rfl ?_
          refine z_leq (L' := [_, _, _, _, _, _]) rfl ?_
          refine z_goto F (tgt := 152) dX6_read_175 (by decide) ?_
          have hk0 : kd tb z b ≠ 0 := by omega
          have kF2 : frm RF F0 F2 := kF.tr m3 (by decide) (by decide)
          have kG2 : frm [17] G0 G2 := kG.tr m4 (by decide) (by decide)
          have kA2 : frm [6, 18] A0 A2 := kA.tr m5 (by decide) (by decide)
          by_cases e0 : (clS tb z n d f c b).1 = 0
          · have hc20 : c ≠ 20 := fun q => by rw [q] at e0; exact clS_20 e0
            exact ih (c + 1) F2 G2 A2 _ _ (by omega) (by omega) w2 (w3 e0) ⟨(m3.at 4 rfl).trans hl.1, (m3.at 5 rfl).trans hl.2.1, m2 e0⟩ (by rw [e0] at m1; exact m1) (hR2 hk0 e0) ((m3.at 0 rfl).trans f0) ((m3.at 8 rfl).trans f8) kF2 kG2 kA2
          · exact bad152 F2 G2 A2 _ _ (c + 1) m1 w1 e0 (by rw [rdS_R h5, hR1 hk0 e0, if_pos e0]) ((m3.at 0 rfl).trans f0) ((m3.at 8 rfl).trans f8) kF2 kG2 kA2
  have at139 : ∀ (F1 : Nat → Int32) (G1 : Nat → Int64) (v1 v2 : Nat) (is : Bool), RS tb z F1 G1 (rq4 tb z).1 (rq4 tb z).2 → is = decide (kd tb z (rq4 tb z).2 = 3) → ((rq2 tb z).1 = 0 → v1 = rqN tb z) → ((rq4 tb z).1 = 0 → v2 = rqD tb z) → F1 0 = nI 0 → F1 8 = nI 0 → frm RF F0 F1 → frm [17] G0 G1 → Z X [some (zr 1 0), some (zi (nI j)), none, some (zi (nI v1)), some (zi (nI v2)), none] [zi (bI is), zr 1 0] [zH, zG F1 G1 A0 B] 0 0 139 := by
    intro F1 G1 v1 v2 is hS his hv1 hv2 f0 f8 kF kG
    subst his
    refine z_callV F (c_mneed F1 G1 A0 B tb z (rq4 tb z).1 (rq4 tb z).2 _ hz q4o.1 htb ht q4o.2 hS) 1 rfl (lw_V q1800 q1802 qs53 q117 q1803) (by decide +kernel) ⟨Nat.le_of_ble_eq_true rfl, Nat.le_of_ble_eq_true rfl⟩ ⟨by omega, by omega⟩ [0, 1] 2 ⟨rfl, rfl, rfl, ⟨Or.inl rfl, Or.inr rfl, trivial⟩⟩ (fun h => nomatch h) (Nat.le_of_ble_eq_true rfl) ⟨⟨Or.inr trivial, Or.inl rfl, trivial⟩, rfl, rfl, rfl, Nat.le_of_ble_eq_true rfl⟩ rfl zC6 (zat_G0 rfl) rfl dX6_read_139 (fun r_139 w_139 hp => ?_) (fun _ _ h => h.elim)
    obtain ⟨rfl, F2, G2, rfl, k1, k2, k3⟩ := hp
    refine z_weq (w' := [zH, zG _ _ _ _]) rfl ?_
    refine z_seq (S' := []) rfl ?_
    refine z_aload_n F dX6_read_142 rfl ?_
    refine z_iload_n F dX6_read_143 rfl ?_
    refine z_iload F dX6_read_144 rfl ?_
    refine z_callV F (c_clears F2 G2 A0 B v1 (nI v2)) 2 rfl (lw_V q1720 q1722 qs40 q117 q1723) (by decide +kernel) ⟨Nat.le_of_ble_eq_true rfl, Nat.le_of_ble_eq_true rfl⟩ ⟨by omega, by omega⟩ [0, 1] 2 ⟨rfl, rfl, rfl, ⟨Or.inl rfl, Or.inr rfl, trivial⟩⟩ (fun h => nomatch h) (Nat.le_of_ble_eq_true rfl) ⟨⟨Or.inr trivial, Or.inl rfl, trivial⟩, rfl, rfl, rfl, Nat.le_of_ble_eq_true rfl⟩ rfl zC6 (zat_G0 rfl) rfl dX6_read_146 (fun r_146 w_146 hp => ?_) (fun _ _ h => h.elim)
    obtain ⟨rfl, F3, A3, rfl, m1, m2, m3⟩ := hp
    refine z_weq (w' := [zH, zG _ _ _ _]) rfl ?_
    refine z_seq (S' := []) rfl ?_
    refine z_iconst F (nI 0) dX6_read_149 rfl ?_
    refine z_istore F dX6_read_150 (Nat.le_of_ble_eq_true rfl) ?_
    refine z_leq (L' := [_, _, _, _, _, _]) rfl ?_
    have hS3 : RS tb z F3 G2 (rq5 tb z).1 (rq5 tb z).2 := RS_cong k1 m1
    have kF3 : frm RF F0 F3 := (kF.tr k2 (l2 := RF) (by decide) (by decide)).tr m1 (by decide) (by decide)
    have kG3 : frm [17] G0 G2 := kG.tr k3 (by decide) (by decide)
    have f03 : F3 0 = nI 0 := (m1.at 0 rfl).trans ((k2.at 0 rfl).trans f0)
    have f83 : F3 8 = nI 0 := (m1.at 8 rfl).trans ((k2.at 8 rfl).trans f8)
    by_cases e0 : (rq5 tb z).1 = 0
    · obtain ⟨z2, z4, n1, n2, d1, d2⟩ := rq_0 e0
      have e1 := hv1 z2
      have e2 := hv2 z4
      subst e1
      subst e2
      refine z_loc _ ?_ (loop _ _ rfl rfl e0 22 0 F3 G2 A3 (rq5 tb z).2 (fun _ => nI 0) rfl (by omega) q5o.1 (nok_zero0 n1 n2 d1 d2) m3 (by rw [e0] at hS3; exact hS3) rfl f03 f83 kF3 kG3 (m2.to (by decide)))
      exact ⟨rfl, rfl, rfl, trivial⟩
    · refine z_loc _ ?_ (bad152 F3 G2 A3 _ _ 0 hS3 q5o.2 e0 (rdS_5 e0) f03 f83 kF3 kG3 (m2.to (by decide)))
      exact ⟨rfl, rfl, rfl, trivial⟩
  have at113 : ∀ (F1 : Nat → Int32) (G1 : Nat → Int64) (v1 : Nat) (is : Bool), RS tb z F1 G1 (rq2 tb z).1 (rq2 tb z).2 → is = isWb tb z (rq2 tb z).2 6 → ((rq2 tb z).1 = 0 → v1 = rqN tb z) → F1 0 = nI 0 → F1 8 = nI 0 → frm RF F0 F1 → frm [17] G0 G1 → Z X [some (zr 1 0), some (zi (nI j)), none, some (zi (nI v1)), none, none] [zi (bI is), zr 1 0] [zH, zG F1 G1 A0 B] 0 0 113 := by
    intro F1 G1 v1 is hS his hv1 f0 f8 kF kG
    subst his
    have hk := kd_lt tb z (rq4 tb z).2
    refine z_callV F (c_mneed F1 G1 A0 B tb z (rq2 tb z).1 (rq2 tb z).2 _ hz q2o.1 htb ht q2o.2 hS) 1 rfl (lw_V q1800 q1802 qs53 q117 q1803) (by decide +kernel) ⟨Nat.le_of_ble_eq_true rfl, Nat.le_of_ble_eq_true rfl⟩ ⟨by omega, by omega⟩ [0, 1] 2 ⟨rfl, rfl, rfl, ⟨Or.inl rfl, Or.inr rfl, trivial⟩⟩ (fun h => nomatch h) (Nat.le_of_ble_eq_true rfl) ⟨⟨Or.inr trivial, Or.inl rfl, trivial⟩, rfl, rfl, rfl, Nat.le_of_ble_eq_true rfl⟩ rfl zC6 (zat_G0 rfl) rfl dX6_read_113 (fun r_113 w_113 hp => ?_) (fun _ _ h => h.elim)
    obtain ⟨rfl, F2, G2, rfl, k1, k2, k3⟩ := hp
    refine z_weq (w' := [zH, zG _ _ _ _]) rfl ?_
    refine z_seq (S' := []) rfl ?_
    refine z_aload_n F dX6_read_116 rfl ?_
    refine z_iconst F (nI 1) dX6_read_117 rfl ?_
    refine z_bipush F (nI 8) dX6_read_118 rfl ?_
    refine z_callV F (c_mnumber F2 G2 A0 B tb z (rq3 tb z).1 (rq3 tb z).2 1 8 hz q3o.1 htb ht q3o.2 k1 (by omega) (by omega)) 2 rfl (lw_V q1812 q1814 qs56 q117 q1815) (by decide +kernel) ⟨Nat.le_of_ble_eq_true rfl, Nat.le_of_ble_eq_true rfl⟩ ⟨by omega, by omega⟩ [0, 1] 2 ⟨rfl, rfl, rfl, ⟨Or.inl rfl, Or.inr rfl, trivial⟩⟩ (fun h => nomatch h) (Nat.le_of_ble_eq_true rfl) ⟨⟨Or.inr trivial, Or.inl rfl, trivial⟩, rfl, rfl, rfl, Nat.le_of_ble_eq_true rfl⟩ rfl zC6 (zat_G0 rfl) rfl dX6_read_120 (fun r_120 w_120 hp => ?_) (fun _ _ h => h.elim)
    obtain ⟨v2, F3, G3, rfl, hv, rfl, m1, m2, m3⟩ := hp
    refine z_weq (w' := [zH, zG _ _ _ _]) rfl ?_
    refine z_seq (S' := zi _ :: _) rfl ?_
    refine z_istore F dX6_read_123 (Nat.le_of_ble_eq_true rfl) ?_
    refine z_leq (L' := [_, _, _, _, _, _]) rfl ?_
    refine z_aload_n F dX6_read_125 rfl ?_
    refine z_aload_n F dX6_read_126 rfl ?_
    refine z_mi F rfl 13 rfl (Nat.le_of_ble_eq_true rfl) rfl q1493 dX6_read_127 ?_
    refine z_ieq (m1.1.2.2.1) ?_
    refine z_iconst F (nI 3) dX6_read_130 rfl ?_
    refine z_icmp_neN F (by omega) (by omega) (tgt := 138) dX6_read_131 (by decide) (fun c_131 => ?_) (fun c_131 => ?_)
    · have kF3 : frm RF F0 F3 := (kF.tr k2 (l2 := RF) (by decide) (by decide)).tr m2 (by decide) (by decide)
      have kG3 : frm [17] G0 G3 := (kG.tr k3 (l2 := [17]) (by decide) (by decide)).tr m3 (by decide) (by decide)
      refine z_iconstB F false dX6_read_138 rfl ?_
      exact at139 F3 G3 v1 v2 false m1 (decide_eq_false c_131).symm hv1 hv ((m2.at 0 rfl).trans ((k2.at 0 rfl).trans f0)) ((m2.at 8 rfl).trans ((k2.at 8 rfl).trans f8)) kF3 kG3
    · have kF3 : frm RF F0 F3 := (kF.tr k2 (l2 := RF) (by decide) (by decide)).tr m2 (by decide) (by decide)
      have kG3 : frm [17] G0 G3 := (kG.tr k3 (l2 := [17]) (by decide) (by decide)).tr m3 (by decide) (by decide)
      refine z_iconstB F true dX6_read_134 rfl ?_
      refine z_goto F (tgt := 139) dX6_read_135 (by decide) ?_
      exact at139 F3 G3 v1 v2 true m1 (decide_eq_true c_131).symm hv1 hv ((m2.at 0 rfl).trans ((k2.at 0 rfl).trans f0)) ((m2.at 8 rfl).trans ((k2.at 8 rfl).trans f8)) kF3 kG3
  have at87 : ∀ (F1 : Nat → Int32) (G1 : Nat → Int64) (is : Bool), RS tb z F1 G1 0 (sk tb z 0) → is = isWb tb z (sk tb z 0) 5 → F1 0 = nI 0 → F1 8 = nI 0 → frm RF F0 F1 → frm [17] G0 G1 → Z X [some (zr 1 0), some (zi (nI j)), none, none, none, none] [zi (bI is), zr 1 0] [zH, zG F1 G1 A0 B] 0 0 87 := by
    intro F1 G1 is hS his f0 f8 kF kG
    subst his
    refine z_callV F (c_mneed F1 G1 A0 B tb z 0 (sk tb z 0) _ hz ((sk_ge tb z 0).2 (by omega)) htb ht (by omega) hS) 1 rfl (lw_V q1800 q1802 qs53 q117 q1803) (by decide +kernel) ⟨Nat.le_of_ble_eq_true rfl, Nat.le_of_ble_eq_true rfl⟩ ⟨by omega, by omega⟩ [0, 1] 2 ⟨rfl, rfl, rfl, ⟨Or.inl rfl, Or.inr rfl, trivial⟩⟩ (fun h => nomatch h) (Nat.le_of_ble_eq_true rfl) ⟨⟨Or.inr trivial, Or.inl rfl, trivial⟩, rfl, rfl, rfl, Nat.le_of_ble_eq_true rfl⟩ rfl zC6 (zat_G0 rfl) rfl dX6_read_87 (fun r_87 w_87 hp => ?_) (fun _ _ h => h.elim)
    obtain ⟨rfl, F2, G2, rfl, k1, k2, k3⟩ := hp
    refine z_weq (w' := [zH, zG _ _ _ _]) rfl ?_
    refine z_seq (S' := []) rfl ?_
    refine z_aload_n F dX6_read_90 rfl ?_
    refine z_iconst F (nI 1) dX6_read_91 rfl ?_
    refine z_bipush F (nI 24) dX6_read_92 rfl ?_
    refine z_callV F (c_mnumber F2 G2 A0 B tb z (rq1 tb z).1 (rq1 tb z).2 1 24 hz q1o.1 htb ht q1o.2 k1 (by omega) (by omega)) 2 rfl (lw_V q1812 q1814 qs56 q117 q1815) (by decide +kernel) ⟨Nat.le_of_ble_eq_true rfl, Nat.le_of_ble_eq_true rfl⟩ ⟨by omega, by omega⟩ [0, 1] 2 ⟨rfl, rfl, rfl, ⟨Or.inl rfl, Or.inr rfl, trivial⟩⟩ (fun h => nomatch h) (Nat.le_of_ble_eq_true rfl) ⟨⟨Or.inr trivial, Or.inl rfl, trivial⟩, rfl, rfl, rfl, Nat.le_of_ble_eq_true rfl⟩ rfl zC6 (zat_G0 rfl) rfl dX6_read_94 (fun r_94 w_94 hp => ?_) (fun _ _ h => h.elim)
    obtain ⟨v1, F3, G3, rfl, hv, rfl, m1, m2, m3⟩ := hp
    refine z_weq (w' := [zH, zG _ _ _ _]) rfl ?_
    refine z_seq (S' := zi _ :: _) rfl ?_
    refine z_istore_n F dX6_read_97 (Nat.le_of_ble_eq_true rfl) ?_
    refine z_leq (L' := [_, _, _, _, _, _]) rfl ?_
    refine z_aload_n F dX6_read_98 rfl ?_
    refine z_aload_n F dX6_read_99 rfl ?_
    refine z_callV F (c_mknown F3 G3 A0 B tb z (rq2 tb z).2 hz q2o.1 m1.1) 0 rfl (lw_V q1793 q1795 qs52 q117 q1796) (by decide +kernel) ⟨Nat.le_of_ble_eq_true rfl, Nat.le_of_ble_eq_true rfl⟩ ⟨by omega, by omega⟩ [0, 1] 2 ⟨rfl, rfl, rfl, ⟨Or.inl rfl, Or.inr rfl, trivial⟩⟩ (fun h => nomatch h) (Nat.le_of_ble_eq_true rfl) ⟨⟨Or.inr trivial, Or.inl rfl, trivial⟩, rfl, rfl, rfl, Nat.le_of_ble_eq_true rfl⟩ rfl zC6 (zat_G0 rfl) rfl dX6_read_100 (fun r_100 w_100 hp => ?_) (fun _ _ h => h.elim)
    obtain ⟨rfl, rfl⟩ := hp
    refine z_weq (w' := [zH, zG _ _ _ _]) rfl ?_
    refine z_seq (S' := zi _ :: _) rfl ?_
    refine z_bipush F (nI 6) dX6_read_103 rfl ?_
    refine z_icmp_ne F (tgt := 112) dX6_read_105 (by decide) (fun c_105 => ?_) (fun c_105 => ?_)
    · have kF3 : frm RF F0 F3 := (kF.tr k2 (l2 := RF) (by decide) (by decide)).tr m2 (by decide) (by decide)
      have kG3 : frm [17] G0 G3 := (kG.tr k3 (l2 := [17]) (by decide) (by decide)).tr m3 (by decide) (by decide)
      refine z_iconstB F false dX6_read_112 rfl ?_
      exact at113 F3 G3 v1 false m1 (ff_of (fun w => c_105 ((kwR_is (by decide)).mpr w))).symm hv ((m2.at 0 rfl).trans ((k2.at 0 rfl).trans f0)) ((m2.at 8 rfl).trans ((k2.at 8 rfl).trans f8)) kF3 kG3
    · have kF3 : frm RF F0 F3 := (kF.tr k2 (l2 := RF) (by decide) (by decide)).tr m2 (by decide) (by decide)
      have kG3 : frm [17] G0 G3 := (kG.tr k3 (l2 := [17]) (by decide) (by decide)).tr m3 (by decide) (by decide)
      refine z_iconstB F true dX6_read_108 rfl ?_
      refine z_goto F (tgt := 113) dX6_read_109 (by decide) ?_
      exact at113 F3 G3 v1 true m1 ((kwR_is (by decide)).mp c_105).symm hv ((m2.at 0 rfl).trans ((k2.at 0 rfl).trans f0)) ((m2.at 8 rfl).trans ((k2.at 8 rfl).trans f8)) kF3 kG3
  refine z_aload_n F dX6_read_0 rfl ?_
  refine z_iconst F (nI 0) dX6_read_1 rfl ?_
  refine z_pmi F rfl 0 rfl (Nat.le_of_ble_eq_true rfl) rfl q1480 rfl rfl rfl dX6_read_2 ?_
  refine z_weq (w' := [_, _]) rfl ?_
  refine z_aload_n F dX6_read_5 rfl ?_
  refine z_iload_n F dX6_read_6 rfl ?_
  refine z_callS F (c_isSlot (nI j)) 1 rfl (lw_S q1714 q1715 q117 q1716) (by decide +kernel) ⟨Nat.le_of_ble_eq_true rfl, Nat.le_of_ble_eq_true rfl⟩ ⟨by omega, by omega⟩ [0] 2 ⟨rfl, rfl, rfl, ⟨Or.inl rfl, trivial⟩⟩ (fun h => nomatch h) (Nat.le_of_ble_eq_true rfl) ⟨⟨Or.inr trivial, Or.inr trivial, trivial⟩, rfl, rfl, rfl, Nat.le_of_ble_eq_true rfl⟩ rfl rfl dX6_read_7 (fun r_7 w_7 hp => ?_) (fun _ _ h => h.elim)
  obtain ⟨rfl, rfl⟩ := hp
  refine z_weq (w' := [zH, zG _ _ _ _]) rfl ?_
  refine z_seq (S' := zi _ :: _) rfl ?_
  refine z_iconst F (nI 1) dX6_read_10 rfl ?_
  rw [slB_n hj]
  refine z_callV F (c_right (upd F0 0 (nI 0)) _ _ _ true 1 rfl (by omega) (by omega)) 2 rfl (lw_V q1736 q1738 qs43 q117 q1739) (by decide +kernel) ⟨Nat.le_of_ble_eq_true rfl, Nat.le_of_ble_eq_true rfl⟩ ⟨by omega, by omega⟩ [0, 1] 2 ⟨rfl, rfl, rfl, ⟨Or.inl rfl, Or.inr rfl, trivial⟩⟩ (fun h => nomatch h) (Nat.le_of_ble_eq_true rfl) ⟨⟨Or.inr trivial, Or.inl rfl, trivial⟩, rfl, rfl, rfl, Nat.le_of_ble_eq_true rfl⟩ rfl zC6 (zat_G0 rfl) rfl dX6_read_11 (fun r_11 w_11 hp => ?_) (fun _ _ h => h.elim)
  obtain ⟨rfl, rfl⟩ := hp
  refine z_weq (w' := [zH, zG _ _ _ _]) rfl ?_
  refine z_seq (S' := zi _ :: _) rfl ?_
  refine z_if_eqB F (tgt := 42) dX6_read_14 (by decide) (fun c_14 => ?_) (fun c_14 => ?_)
  · cases c_14
  · refine z_aload_n F dX6_read_17 rfl ?_
    refine z_iload_n F dX6_read_18 rfl ?_
    refine z_if_ltN F (by omega) (tgt := 34) dX6_read_19 (by decide) (fun c_19 => ?_) (fun c_19 => ?_)
    · exact absurd c_19 (by omega)
    · refine z_iload_n F dX6_read_22 rfl ?_
      refine z_aload_n F dX6_read_23 rfl ?_
      refine z_mi F rfl 8 rfl (Nat.le_of_ble_eq_true rfl) rfl q1488 dX6_read_24 ?_
      refine z_ieq (h8) ?_
      refine z_icmp_gtN F (by omega) (by omega) (tgt := 34) dX6_read_27 (by decide) (fun c_27 => ?_) (fun c_27 => ?_)
      · exact absurd c_27 (by omega)
      · refine z_iconstB F true dX6_read_30 rfl ?_
        refine z_goto F (tgt := 35) dX6_read_31 (by decide) ?_
        refine z_iconst F (nI 2) dX6_read_35 rfl ?_
        refine z_callV F (c_right (upd F0 0 (nI 0)) _ _ _ true 2 rfl (by omega) (by omega)) 2 rfl (lw_V q1736 q1738 qs43 q117 q1739) (by decide +kernel) ⟨Nat.le_of_ble_eq_true rfl, Nat.le_of_ble_eq_true rfl⟩ ⟨by omega, by omega⟩ [0, 1] 2 ⟨rfl, rfl, rfl, ⟨Or.inl rfl, Or.inr rfl, trivial⟩⟩ (fun h => nomatch h) (Nat.le_of_ble_eq_true rfl) ⟨⟨Or.inr trivial, Or.inl rfl, trivial⟩, rfl, rfl, rfl, Nat.le_of_ble_eq_true rfl⟩ rfl zC6 (zat_G0 rfl) rfl dX6_read_36 (fun r_36 w_36 hp => ?_) (fun _ _ h => h.elim)
        obtain ⟨rfl, rfl⟩ := hp
        refine z_weq (w' := [zH, zG _ _ _ _]) rfl ?_
        refine z_seq (S' := zi _ :: _) rfl ?_
        refine z_if_neB F (tgt := 44) dX6_read_39 (by decide) (fun c_39 => ?_) (fun c_39 => ?_)
        · refine z_aload_n F dX6_read_44 rfl ?_
          refine z_iconst F (nI 0) dX6_read_45 rfl ?_
          refine z_pmi F rfl 8 rfl (Nat.le_of_ble_eq_true rfl) rfl q1488 rfl rfl rfl dX6_read_46 ?_
          refine z_weq (w' := [_, _]) rfl ?_
          refine z_aload_n F dX6_read_49 rfl ?_
          refine z_iconst F (-1) dX6_read_50 rfl ?_
          refine z_pmi F rfl 10 rfl (Nat.le_of_ble_eq_true rfl) rfl q1490 rfl rfl rfl dX6_read_51 ?_
          refine z_weq (w' := [_, _]) rfl ?_
          refine z_aload_n F dX6_read_54 rfl ?_
          refine z_iconst F (nI 0) dX6_read_55 rfl ?_
          refine z_pmi F rfl 9 rfl (Nat.le_of_ble_eq_true rfl) rfl q1489 rfl rfl rfl dX6_read_56 ?_
          refine z_weq (w' := [_, _]) rfl ?_
          refine z_aload_n F dX6_read_59 rfl ?_
          refine z_iload_n F dX6_read_60 rfl ?_
          refine z_pmi F rfl 11 rfl (Nat.le_of_ble_eq_true rfl) rfl q1491 rfl rfl rfl dX6_read_61 ?_
          refine z_weq (w' := [_, _]) rfl ?_
          refine z_aload_n F dX6_read_64 rfl ?_
          refine z_iconst F (nI 0) dX6_read_65 rfl ?_
          refine z_pmi F rfl 12 rfl (Nat.le_of_ble_eq_true rfl) rfl q1492 rfl rfl rfl dX6_read_66 ?_
          refine z_weq (w' := [_, _]) rfl ?_
          refine z_aload_n F dX6_read_69 rfl ?_
          refine z_callV F (c_mrdGo (upd (upd (upd (upd (upd (upd F0 0 (nI 0)) 8 (nI 0)) 10 (-1)) 9 (nI 0)) 11 (nI z)) 12 (nI 0)) G0 A0 B tb z 0 hz (by omega) htb rfl rfl ht) 0 rfl (lw_V q1779 q1781 qs50 q117 q1782) (by decide +kernel) ⟨Nat.le_of_ble_eq_true rfl, Nat.le_of_ble_eq_true rfl⟩ ⟨by omega, by omega⟩ [0, 1] 2 ⟨rfl, rfl, rfl, ⟨Or.inl rfl, Or.inr rfl, trivial⟩⟩ (fun h => nomatch h) (Nat.le_of_ble_eq_true rfl) ⟨⟨Or.inr trivial, Or.inl rfl, trivial⟩, rfl, rfl, rfl, Nat.le_of_ble_eq_true rfl⟩ rfl zC6 (zat_G0 rfl) rfl dX6_read_70 (fun r_70 w_70 hp => ?_) (fun _ _ h => h.elim)
          obtain ⟨rfl, F2, G2, rfl, k1, k2, k3⟩ := hp
          refine z_weq (w' := [zH, zG _ _ _ _]) rfl ?_
          refine z_seq (S' := []) rfl ?_
          refine z_aload_n F dX6_read_73 rfl ?_
          refine z_aload_n F dX6_read_74 rfl ?_
          refine z_callV F (c_mknown F2 G2 A0 B tb z (sk tb z 0) hz ((sk_ge tb z 0).2 (by omega)) k1) 0 rfl (lw_V q1793 q1795 qs52 q117 q1796) (by decide +kernel) ⟨Nat.le_of_ble_eq_true rfl, Nat.le_of_ble_eq_true rfl⟩ ⟨by omega, by omega⟩ [0, 1] 2 ⟨rfl, rfl, rfl, ⟨Or.inl rfl, Or.inr rfl, trivial⟩⟩ (fun h => nomatch h) (Nat.le_of_ble_eq_true rfl) ⟨⟨Or.inr trivial, Or.inl rfl, trivial⟩, rfl, rfl, rfl, Nat.le_of_ble_eq_true rfl⟩ rfl zC6 (zat_G0 rfl) rfl dX6_read_75 (fun r_75 w_75 hp => ?_) (fun _ _ h => h.elim)
          obtain ⟨rfl, rfl⟩ := hp
          refine z_weq (w' := [zH, zG _ _ _ _]) rfl ?_
          refine z_seq (S' := zi _ :: _) rfl ?_
          refine z_iconst F (nI 5) dX6_read_78 rfl ?_
          refine z_icmp_ne F (tgt := 86) dX6_read_79 (by decide) (fun c_79 => ?_) (fun c_79 => ?_)
          · have kS : RS tb z F2 G2 0 (sk tb z 0) := ⟨k1, (k2.at 9 rfl).trans rfl, fun w => absurd rfl w, fun _ => (k2.at 10 rfl).trans rfl⟩
            have kF2 : frm RF F0 F2 := (frm_upd (frm_upd (frm_upd (frm_upd (frm_upd (frm_upd (l := RF) frm.rf (by decide)) (by decide)) (by decide)) (by decide)) (by decide)) (by decide)).tr k2 (by decide) (by decide)
            refine z_iconstB F false dX6_read_86 rfl ?_
            refine z_loc _ ?_ (at87 F2 G2 false kS (ff_of (fun w => c_79 ((kwR_is (by decide)).mpr w))).symm ((k2.at 0 rfl).trans rfl) ((k2.at 8 rfl).trans rfl) kF2 k3)
            exact ⟨rfl, rfl, trivial⟩
          · have kS : RS tb z F2 G2 0 (sk tb z 0) := ⟨k1, (k2.at 9 rfl).trans rfl, fun w => absurd rfl w, fun _ => (k2.at 10 rfl).trans rfl⟩
            have kF2 : frm RF F0 F2 := (frm_upd (frm_upd (frm_upd (frm_upd (frm_upd (frm_upd (l := RF) frm.rf (by decide)) (by decide)) (by decide)) (by decide)) (by decide)) (by decide)).tr k2 (by decide) (by decide)
            refine z_iconstB F true dX6_read_82 rfl ?_
            refine z_goto F (tgt := 87) dX6_read_83 (by decide) ?_
            refine z_loc _ ?_ (at87 F2 G2 true kS ((kwR_is (by decide)).mp c_79).symm ((k2.at 0 rfl).trans rfl) ((k2.at 8 rfl).trans rfl) kF2 k3)
            exact ⟨rfl, rfl, trivial⟩
        · cases c_39
theorem c_mread_no (F0 : Nat → Int32) (G0 : Nat → Int64) (A0 : Nat → Nat → Int32) (B : Nat → Nat → Int64) (s v : Int32) (hs : slB s = false) : zCtr yX6_read cX6_read 6 (some .int) 4 0 0 [zr 1 0, zi s, zi v] [zH, zG F0 G0 A0 B] (fun r w => r = some (zi (nI 0)) ∧ w = [zH, zG (upd F0 0 (nI 1)) G0 A0 B]) zNx := by
  refine z_start (by decide) [some (zr 1 0), some (zi s), some (zi v), none, none, none] rfl (fun _ => Nat.le_of_ble_eq_true rfl) (fun _ => rfl) (fun X F E hno hin => ?_)
  refine z_aload_n F dX6_read_0 rfl ?_
  refine z_iconst F (nI 0) dX6_read_1 rfl ?_
  refine z_pmi F rfl 0 rfl (Nat.le_of_ble_eq_true rfl) rfl q1480 rfl rfl rfl dX6_read_2 ?_
  refine z_weq (w' := [_, _]) rfl ?_
  refine z_aload_n F dX6_read_5 rfl ?_
  refine z_iload_n F dX6_read_6 rfl ?_
  refine z_callS F (c_isSlot s) 1 rfl (lw_S q1714 q1715 q117 q1716) (by decide +kernel) ⟨Nat.le_of_ble_eq_true rfl, Nat.le_of_ble_eq_true rfl⟩ ⟨by omega, by omega⟩ [0] 2 ⟨rfl, rfl, rfl, ⟨Or.inl rfl, trivial⟩⟩ (fun h => nomatch h) (Nat.le_of_ble_eq_true rfl) ⟨⟨Or.inr trivial, Or.inr trivial, trivial⟩, rfl, rfl, rfl, Nat.le_of_ble_eq_true rfl⟩ rfl rfl dX6_read_7 (fun r_7 w_7 hp => ?_) (fun _ _ h => h.elim)
  obtain ⟨rfl, rfl⟩ := hp
  refine z_weq (w' := [zH, zG _ _ _ _]) rfl ?_
  refine z_seq (S' := zi _ :: _) rfl ?_
  refine z_iconst F (nI 1) dX6_read_10 rfl ?_
  rw [hs]
  refine z_callV F (c_right (upd F0 0 (nI 0)) _ _ _ false 1 rfl (by omega) (by omega)) 2 rfl (lw_V q1736 q1738 qs43 q117 q1739) (by decide +kernel) ⟨Nat.le_of_ble_eq_true rfl, Nat.le_of_ble_eq_true rfl⟩ ⟨by omega, by omega⟩ [0, 1] 2 ⟨rfl, rfl, rfl, ⟨Or.inl rfl, Or.inr rfl, trivial⟩⟩ (fun h => nomatch h) (Nat.le_of_ble_eq_true rfl) ⟨⟨Or.inr trivial, Or.inl rfl, trivial⟩, rfl, rfl, rfl, Nat.le_of_ble_eq_true rfl⟩ rfl zC6 (zat_G0 rfl) rfl dX6_read_11 (fun r_11 w_11 hp => ?_) (fun _ _ h => h.elim)
  obtain ⟨rfl, rfl⟩ := hp
  refine z_weq (w' := [zH, zG _ _ _ _]) rfl ?_
  refine z_seq (S' := zi _ :: _) rfl ?_
  refine z_if_eqB F (tgt := 42) dX6_read_14 (by decide) (fun c_14 => ?_) (fun c_14 => ?_)
  · refine z_iconst F (nI 0) dX6_read_42 rfl ?_
    exact z_iret F E rfl dX6_read_43 (by omega) (by omega) (⟨rfl, by rw [upd_upd]; rfl⟩)
  · cases c_14
theorem c_mread_bad (F0 : Nat → Int32) (G0 : Nat → Int64) (A0 : Nat → Nat → Int32) (B : Nat → Nat → Int64) (j t : Nat) (v : Int32) (hj : j < 8) (ht4 : t ≤ 400) (h8 : F0 8 = nI t) (hv : ∀ i, i < t + 1 → ¬ v = nI i) : zCtr yX6_read cX6_read 6 (some .int) 4 0 0 [zr 1 0, zi (nI j), zi v] [zH, zG F0 G0 A0 B] (fun r w => r = some (zi (nI 0)) ∧ w = [zH, zG (upd F0 0 (nI 2)) G0 A0 B]) zNx := by
  refine z_start (by decide) [some (zr 1 0), some (zi (nI j)), some (zi v), none, none, none] rfl (fun _ => Nat.le_of_ble_eq_true rfl) (fun _ => rfl) (fun X F E hno hin => ?_)
  refine z_aload_n F dX6_read_0 rfl ?_
  refine z_iconst F (nI 0) dX6_read_1 rfl ?_
  refine z_pmi F rfl 0 rfl (Nat.le_of_ble_eq_true rfl) rfl q1480 rfl rfl rfl dX6_read_2 ?_
  refine z_weq (w' := [_, _]) rfl ?_
  refine z_aload_n F dX6_read_5 rfl ?_
  refine z_iload_n F dX6_read_6 rfl ?_
  refine z_callS F (c_isSlot (nI j)) 1 rfl (lw_S q1714 q1715 q117 q1716) (by decide +kernel) ⟨Nat.le_of_ble_eq_true rfl, Nat.le_of_ble_eq_true rfl⟩ ⟨by omega, by omega⟩ [0] 2 ⟨rfl, rfl, rfl, ⟨Or.inl rfl, trivial⟩⟩ (fun h => nomatch h) (Nat.le_of_ble_eq_true rfl) ⟨⟨Or.inr trivial, Or.inr trivial, trivial⟩, rfl, rfl, rfl, Nat.le_of_ble_eq_true rfl⟩ rfl rfl dX6_read_7 (fun r_7 w_7 hp => ?_) (fun _ _ h => h.elim)
  obtain ⟨rfl, rfl⟩ := hp
  refine z_weq (w' := [zH, zG _ _ _ _]) rfl ?_
  refine z_seq (S' := zi _ :: _) rfl ?_
  refine z_iconst F (nI 1) dX6_read_10 rfl ?_
  rw [slB_n hj]
  refine z_callV F (c_right (upd F0 0 (nI 0)) _ _ _ true 1 rfl (by omega) (by omega)) 2 rfl (lw_V q1736 q1738 qs43 q117 q1739) (by decide +kernel) ⟨Nat.le_of_ble_eq_true rfl, Nat.le_of_ble_eq_true rfl⟩ ⟨by omega, by omega⟩ [0, 1] 2 ⟨rfl, rfl, rfl, ⟨Or.inl rfl, Or.inr rfl, trivial⟩⟩ (fun h => nomatch h) (Nat.le_of_ble_eq_true rfl) ⟨⟨Or.inr trivial, Or.inl rfl, trivial⟩, rfl, rfl, rfl, Nat.le_of_ble_eq_true rfl⟩ rfl zC6 (zat_G0 rfl) rfl dX6_read_11 (fun r_11 w_11 hp => ?_) (fun _ _ h => h.elim)
  obtain ⟨rfl, rfl⟩ := hp
  refine z_weq (w' := [zH, zG _ _ _ _]) rfl ?_
  refine z_seq (S' := zi _ :: _) rfl ?_
  refine z_if_eqB F (tgt := 42) dX6_read_14 (by decide) (fun c_14 => ?_) (fun c_14 => ?_)
  · cases c_14
  · refine z_aload_n F dX6_read_17 rfl ?_
    refine z_iload_n F dX6_read_18 rfl ?_
    refine z_if_lt F (tgt := 34) dX6_read_19 (by decide) (fun c_19 => ?_) (fun c_19 => ?_)
    · refine z_iconstB F false dX6_read_34 rfl ?_
      refine z_iconst F (nI 2) dX6_read_35 rfl ?_
      refine z_callV F (c_right (upd F0 0 (nI 0)) _ _ _ false 2 rfl (by omega) (by omega)) 2 rfl (lw_V q1736 q1738 qs43 q117 q1739) (by decide +kernel) ⟨Nat.le_of_ble_eq_true rfl, Nat.le_of_ble_eq_true rfl⟩ ⟨by omega, by omega⟩ [0, 1] 2 ⟨rfl, rfl, rfl, ⟨Or.inl rfl, Or.inr rfl, trivial⟩⟩ (fun h => nomatch h) (Nat.le_of_ble_eq_true rfl) ⟨⟨Or.inr trivial, Or.inl rfl, trivial⟩, rfl, rfl, rfl, Nat.le_of_ble_eq_true rfl⟩ rfl zC6 (zat_G0 rfl) rfl dX6_read_36 (fun r_36 w_36 hp => ?_) (fun _ _ h => h.elim)
      obtain ⟨rfl, rfl⟩ := hp
      refine z_weq (w' := [zH, zG _ _ _ _]) rfl ?_
      refine z_seq (S' := zi _ :: _) rfl ?_
      refine z_if_neB F (tgt := 44) dX6_read_39 (by decide) (fun c_39 => ?_) (fun c_39 => ?_)
      · cases c_39
      · refine z_iconst F (nI 0) dX6_read_42 rfl ?_
        exact z_iret F E rfl dX6_read_43 (by omega) (by omega) (⟨rfl, by rw [upd_upd]; rfl⟩)
    · refine z_iload_n F dX6_read_22 rfl ?_
      refine z_aload_n F dX6_read_23 rfl ?_
      refine z_mi F rfl 8 rfl (Nat.le_of_ble_eq_true rfl) rfl q1488 dX6_read_24 ?_
      refine z_ieq (h8) ?_
      refine z_icmp_gt F (tgt := 34) dX6_read_27 (by decide) (fun c_27 => ?_) (fun c_27 => ?_)
      · refine z_iconstB F false dX6_read_34 rfl ?_
        refine z_iconst F (nI 2) dX6_read_35 rfl ?_
        refine z_callV F (c_right (upd F0 0 (nI 0)) _ _ _ false 2 rfl (by omega) (by omega)) 2 rfl (lw_V q1736 q1738 qs43 q117 q1739) (by decide +kernel) ⟨Nat.le_of_ble_eq_true rfl, Nat.le_of_ble_eq_true rfl⟩ ⟨by omega, by omega⟩ [0, 1] 2 ⟨rfl, rfl, rfl, ⟨Or.inl rfl, Or.inr rfl, trivial⟩⟩ (fun h => nomatch h) (Nat.le_of_ble_eq_true rfl) ⟨⟨Or.inr trivial, Or.inl rfl, trivial⟩, rfl, rfl, rfl, Nat.le_of_ble_eq_true rfl⟩ rfl zC6 (zat_G0 rfl) rfl dX6_read_36 (fun r_36 w_36 hp => ?_) (fun _ _ h => h.elim)
        obtain ⟨rfl, rfl⟩ := hp
        refine z_weq (w' := [zH, zG _ _ _ _]) rfl ?_
        refine z_seq (S' := zi _ :: _) rfl ?_
        refine z_if_neB F (tgt := 44) dX6_read_39 (by decide) (fun c_39 => ?_) (fun c_39 => ?_)
        · cases c_39
        · refine z_iconst F (nI 0) dX6_read_42 rfl ?_
          exact z_iret F E rfl dX6_read_43 (by omega) (by omega) (⟨rfl, by rw [upd_upd]; rfl⟩)
      · exact absurd rfl (hv k (Nat.lt_succ_of_le (Nat.le_of_not_lt fun w => c_27 (nI_lt w hk))))
end C9yx
end
