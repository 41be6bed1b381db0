/-! read: what a text says -/
section C9yt
theorem isWb_f {tb : Nat → Nat} {n b i : Nat} : isWb tb n b i = false ↔ ¬ isW tb n b i := by
  constructor
  · intro h z
    rw [isWb_t.mpr z] at h; cases h
  · intro h
    exact ff_of fun z => h (isWb_t.mp z)
/-- which known word -/
noncomputable def kwI (tb : Nat → Nat) (z b : Nat) : Option Nat := if isWb tb z b 0 = true then some 0 else if isWb tb z b 1 = true then some 1 else if isWb tb z b 2 = true then some 2 else if isWb tb z b 3 = true then some 3 else if isWb tb z b 4 = true then some 4 else if isWb tb z b 5 = true then some 5 else if isWb tb z b 6 = true then some 6 else none
theorem kwI_some {tb : Nat → Nat} {z b i : Nat} : kwI tb z b = some i ↔ i < 7 ∧ isW tb z b i := by
  constructor
  · intro h
    unfold kwI at h
    repeat' split at h
    all_goals first
      | (cases h; exact ⟨by omega, isWb_t.mp (by assumption)⟩)
      | cases h
  · rintro ⟨hi, hw⟩
    have key : ∀ j, j < 7 → j ≠ i → isWb tb z b j = false := fun j hj hne => isWb_f.mpr fun w => hne (isW_one hj hi w hw)
    have hy := isWb_t.mpr hw
    unfold kwI
    rcases (show i = 0 ∨ i = 1 ∨ i = 2 ∨ i = 3 ∨ i = 4 ∨ i = 5 ∨ i = 6 by omega) with e | e | e | e | e | e | e <;> subst e <;> simp [hy, key]
theorem kwI_none {tb : Nat → Nat} {z b i : Nat} (h : kwI tb z b = none) (hi : i < 7) : isWb tb z b i = false := isWb_f.mpr fun w => by
  rw [kwI_some.mpr ⟨hi, w⟩] at h; cases h
theorem kwI_b {tb : Nat → Nat} {z b i j : Nat} (h : kwI tb z b = some i) (hj : j < 7) : isWb tb z b j = decide (j = i) := by
  obtain ⟨hi, hw⟩ := kwI_some.mp h
  by_cases e : j = i
  · rw [decide_eq_true e, e]; exact isWb_t.mpr hw
  · rw [decide_eq_false e]
    exact isWb_f.mpr fun w => e (isW_one hj hi w hw)
/-- a number's fault -/
def nuE (tb : Nat → Nat) (z lo hi b : Nat) : Nat := if kd tb z b ≠ 2 then 1 else if 3 < en tb z b - b ∨ rv tb z b < lo ∨ hi < rv tb z b then 2 else 0
def lmem (l : Nat → Nat) (v : Nat) : Nat → Bool
  | 0 => false
  | k + 1 => lmem l v k || decide (l k = v)
theorem lmem_t {l : Nat → Nat} {v : Nat} : ∀ {m}, lmem l v m = true ↔ ∃ k, k < m ∧ l k = v
  | 0 => ⟨fun h => (by cases h), fun ⟨k, hk, _⟩ => absurd hk (by omega)⟩
  | m + 1 => by
    rw [lmem, Bool.or_eq_true, decide_eq_true_eq, lmem_t]
    constructor
    · rintro (⟨k, a, e⟩ | e)
      · exact ⟨k, by omega, e⟩
      · exact ⟨m, by omega, e⟩
    · rintro ⟨k, a, e⟩
      by_cases q : k = m
      · rw [q] at e; exact Or.inr e
      · exact Or.inl ⟨k, by omega, e⟩
/-- a knot's fault -/
def knE (tb : Nat → Nat) (z n : Nat) (l : Nat → Nat) (m b : Nat) : Nat := if kd tb z b ≠ 2 then 1 else if 3 < en tb z b - b ∨ m = 12 then 2 else if n ≤ rv tb z b then 3 else if lmem l (rv tb z b) m = true then 4 else 0
def lput (l : Nat → Nat) (m v : Nat) : Nat → Nat := fun k => if k = m then v else l k
abbrev kS : Type := Nat × Nat × (Nat → Nat) × Nat
def kn1 (tb : Nat → Nat) (z n : Nat) (s : kS) : kS := if s.1 ≠ 0 then s else if knE tb z n s.2.2.1 s.2.2.2 s.2.1 = 0 then (0, nb tb z s.2.1, lput s.2.2.1 s.2.2.2 (rv tb z s.2.1), s.2.2.2 + 1) else (knE tb z n s.2.2.1 s.2.2.2 s.2.1, s.2.1, s.2.2.1, s.2.2.2)
def knL (tb : Nat → Nat) (z n : Nat) : Nat → kS → kS
  | 0, s => s
  | u + 1, s => if s.1 = 0 ∧ kd tb z s.2.1 = 2 then knL tb z n u (kn1 tb z n s) else s
def lok (n : Nat) (l : Nat → Nat) (m : Nat) : Prop := (∀ k, k < m → l k < n) ∧ (∀ i j, i < m → j < m → l i = l j → i = j) ∧ m ≤ 12
theorem lok_0 (n : Nat) (l : Nat → Nat) : lok n l 0 := ⟨fun k h => absurd h (by omega), fun i j h => absurd h (by omega), by omega⟩
theorem lok_put {n v m : Nat} {l : Nat → Nat} (h : lok n l m) (hv : v < n) (hm : m < 12) (hl : lmem l v m = false) : lok n (lput l m v) (m + 1) := by
  have hne : ∀ k, k < m → l k ≠ v := fun k hk e => by rw [lmem_t.mpr ⟨k, hk, e⟩] at hl; cases hl
  refine ⟨fun k hk => ?_, fun i j hi hj e => ?_, by omega⟩
  · unfold lput
    split
    · exact hv
    · exact h.1 k (by omega)
  · unfold lput at e
    by_cases q1 : i = m
    · by_cases q2 : j = m
      · omega
      · rw [if_pos q1, if_neg q2] at e; exact absurd e.symm (hne j (by omega))
    · by_cases q2 : j = m
      · rw [if_neg q1, if_pos q2] at e; exact absurd e (hne i (by omega))
      · rw [if_neg q1, if_neg q2] at e; exact h.2.1 i j (by omega) (by omega) e
theorem knE_0 {tb : Nat → Nat} {z n m b : Nat} {l : Nat → Nat} (h : knE tb z n l m b = 0) : kd tb z b = 2 ∧ en tb z b - b ≤ 3 ∧ m ≠ 12 ∧ rv tb z b < n ∧ lmem l (rv tb z b) m = false := by
  unfold knE at h
  split at h
  · omega
  · split at h
    · omega
    · split at h
      · omega
      · split at h
        · omega
        · rename_i a b_ c e
          exact ⟨by omega, by omega, by omega, by omega, ff_of e⟩
theorem knE_le (tb : Nat → Nat) (z n : Nat) (l : Nat → Nat) (m b : Nat) : knE tb z n l m b ≤ 4 := by
  unfold knE
  repeat' split
  all_goals omega
theorem nuE_le (tb : Nat → Nat) (z lo hi b : Nat) : nuE tb z lo hi b ≤ 2 := by
  unfold nuE
  repeat' split
  all_goals omega
theorem kn1_ok {tb : Nat → Nat} {z n : Nat} {s : kS} (hb : s.2.1 ≤ z) (h : lok n s.2.2.1 s.2.2.2) (he : s.1 ≤ 6) : (kn1 tb z n s).2.1 ≤ z ∧ lok n (kn1 tb z n s).2.2.1 (kn1 tb z n s).2.2.2 ∧ (kn1 tb z n s).1 ≤ 6 := by
  unfold kn1
  split
  · exact ⟨hb, h, he⟩
  · split
    · rename_i q
      obtain ⟨a, b, c, d, e⟩ := knE_0 q
      exact ⟨nb_le hb, lok_put h d (by have := h.2.2; omega) e, by show 0 ≤ 6; omega⟩
    · exact ⟨hb, h, Nat.le_trans (knE_le _ _ _ _ _ _) (by omega)⟩
theorem knL_ok {tb : Nat → Nat} {z n : Nat} : ∀ (u : Nat) {s : kS}, s.2.1 ≤ z → lok n s.2.2.1 s.2.2.2 → s.1 ≤ 6 → (knL tb z n u s).2.1 ≤ z ∧ lok n (knL tb z n u s).2.2.1 (knL tb z n u s).2.2.2 ∧ (knL tb z n u s).1 ≤ 6
  | 0, s, hb, h, he => ⟨hb, h, he⟩
  | u + 1, s, hb, h, he => by
    rw [knL]
    split
    · obtain ⟨a, b, c⟩ := kn1_ok (tb := tb) hb h he
      exact knL_ok u a b c
    · exact ⟨hb, h, he⟩
theorem knL_bad {tb : Nat → Nat} {z n : Nat} {s : kS} (h : ¬ (s.1 = 0 ∧ kd tb z s.2.1 = 2)) : ∀ u, knL tb z n u s = s
  | 0 => rfl
  | u + 1 => by rw [knL, if_neg h]
theorem knL_stop {tb : Nat → Nat} {z n : Nat} : ∀ (u : Nat) {s : kS}, 13 ≤ u + s.2.2.2 → s.2.2.2 ≤ 12 → ¬ ((knL tb z n u s).1 = 0 ∧ kd tb z (knL tb z n u s).2.1 = 2)
  | 0, s, h1, h2 => by omega
  | u + 1, s, h1, h2 => by
    rw [knL]
    split
    · rename_i q
      by_cases e : knE tb z n s.2.2.1 s.2.2.2 s.2.1 = 0
      · have e2 : kn1 tb z n s = (0, nb tb z s.2.1, lput s.2.2.1 s.2.2.2 (rv tb z s.2.1), s.2.2.2 + 1) := by
          unfold kn1; rw [if_neg (by omega), if_pos e]
        rw [e2]
        have := (knE_0 e).2.2.1
        exact knL_stop u (by show 13 ≤ u + (s.2.2.2 + 1); omega) (by show s.2.2.2 + 1 ≤ 12; omega)
      · have e2 : kn1 tb z n s = (knE tb z n s.2.2.1 s.2.2.2 s.2.1, s.2.1, s.2.2.1, s.2.2.2) := by
          unfold kn1; rw [if_neg (by omega), if_neg e]
        have hb : ¬ ((kn1 tb z n s).1 = 0 ∧ kd tb z (kn1 tb z n s).2.1 = 2) := fun w => e (by have := w.1; rw [e2] at this; exact this)
        rw [knL_bad hb]
        exact hb
    · assumption
/-- lines drawn one behind the other: a net, or a fault -/
abbrev dS : Type := (Nat → Int32) ⊕ Nat
def dj (d : Nat) (s : dS) (a b : Nat) : dS := match s with
  | .inr e => .inr e
  | .inl f => if bt (f a) b = true then .inr 5 else if mayJ f d a b = true then .inl (jn f a b) else .inr 6
def drow (d : Nat) (f : Nat → Int32) (l : Nat → Nat) : Nat → dS
  | 0 => .inl f
  | k + 1 => dj d (drow d f l k) (l k) (l (k + 1))
def dstr (d : Nat) (f : Nat → Int32) (l : Nat → Nat) : Nat → dS
  | 0 => .inl f
  | k + 1 => dj d (dstr d f l k) (l 0) (l (k + 1))
def dalr (d : Nat) (s : dS) (l : Nat → Nat) (k : Nat) : Nat → dS
  | 0 => s
  | j + 1 => dj d (dalr d s l k j) (l j) (l k)
def dall (d : Nat) (f : Nat → Int32) (l : Nat → Nat) : Nat → dS
  | 0 => .inl f
  | k + 1 => dalr d (dall d f l k) l (k + 1) (k + 1)
def doff (f : Nat → Int32) (l : Nat → Nat) : dS := if bt (f (l 0)) (l 1) = true then .inl (pt f (l 0) (l 1)) else .inr 5
def lnR (d i : Nat) (l : Nat → Nat) (m : Nat) (f : Nat → Int32) : dS := if i = 0 then drow d f l (m - 1) else if i = 1 then dj d (drow d f l (m - 1)) (l (m - 1)) (l 0) else if i = 2 then dall d f l (m - 1) else if i = 3 then dstr d f l (m - 1) else doff f l
def dok (n d : Nat) (s : dS) : Prop := (∀ f, s = .inl f → nok n d f) ∧ ∀ e, s = .inr e → e = 5 ∨ e = 6
theorem dj_ok {n d : Nat} {s : dS} {a b : Nat} (h : dok n d s) (ha : a < n) (hb : b < n) : dok n d (dj d s a b) := by
  rcases s with f | e
  · have hf := h.1 f rfl
    unfold dj
    refine ⟨fun g hg => ?_, fun e he => ?_⟩
    · dsimp only at hg
      split at hg
      · cases hg
      · split at hg
        · rename_i q
          cases hg
          exact nok_jn hf ha hb q
        · cases hg
    · dsimp only at he
      split at he
      · cases he; exact Or.inl rfl
      · split at he
        · cases he
        · cases he; exact Or.inr rfl
  · exact ⟨fun f q => (by cases q), fun e' q => by cases q; exact h.2 e rfl⟩
theorem drow_ok {n d : Nat} {f : Nat → Int32} {l : Nat → Nat} {m : Nat} (hf : nok n d f) (hl : ∀ k, k < m → l k < n) : ∀ k, k + 1 ≤ m → dok n d (drow d f l k)
  | 0, _ => ⟨fun g q => by cases q; exact hf, fun e q => (by cases q)⟩
  | k + 1, hk => dj_ok (drow_ok hf hl k (by omega)) (hl k (by omega)) (hl (k + 1) (by omega))
theorem dstr_ok {n d : Nat} {f : Nat → Int32} {l : Nat → Nat} {m : Nat} (hf : nok n d f) (hl : ∀ k, k < m → l k < n) : ∀ k, k + 1 ≤ m → dok n d (dstr d f l k)
  | 0, _ => ⟨fun g q => by cases q; exact hf, fun e q => (by cases q)⟩
  | k + 1, hk => dj_ok (dstr_ok hf hl k (by omega)) (hl 0 (by omega)) (hl (k + 1) (by omega))
theorem dalr_ok {n d : Nat} {s : dS} {l : Nat → Nat} {m : Nat} (hs : dok n d s) (hl : ∀ k, k < m → l k < n) {k : Nat} (hk : k < m) : ∀ j, j ≤ m → dok n d (dalr d s l k j)
  | 0, _ => hs
  | j + 1, hj => dj_ok (dalr_ok hs hl hk j (by omega)) (hl j (by omega)) (hl k hk)
theorem dall_ok {n d : Nat} {f : Nat → Int32} {l : Nat → Nat} {m : Nat} (hf : nok n d f) (hl : ∀ k, k < m → l k < n) : ∀ k, k + 1 ≤ m → dok n d (dall d f l k)
  | 0, _ => ⟨fun g q => by cases q; exact hf, fun e q => (by cases q)⟩
  | k + 1, hk => dalr_ok (dall_ok hf hl k (by omega)) hl (by omega) (k + 1) (by omega)
theorem dj_bad {d e a b : Nat} : dj d (.inr e) a b = .inr e := rfl
theorem drow_bad {d : Nat} {f : Nat → Int32} {l : Nat → Nat} {e k : Nat} (h : drow d f l k = .inr e) : ∀ m, k ≤ m → drow d f l m = .inr e
  | 0, hm => by rw [show k = 0 by omega] at h; exact h
  | m + 1, hm => by
    by_cases q : k = m + 1
    · rw [← q]; exact h
    · rw [drow, drow_bad h m (by omega)]; rfl
theorem dstr_bad {d : Nat} {f : Nat → Int32} {l : Nat → Nat} {e k : Nat} (h : dstr d f l k = .inr e) : ∀ m, k ≤ m → dstr d f l m = .inr e
  | 0, hm => by rw [show k = 0 by omega] at h; exact h
  | m + 1, hm => by
    by_cases q : k = m + 1
    · rw [← q]; exact h
    · rw [dstr, dstr_bad h m (by omega)]; rfl
theorem dalr_bad {d : Nat} {s : dS} {l : Nat → Nat} {e k j : Nat} (h : dalr d s l k j = .inr e) : ∀ m, j ≤ m → dalr d s l k m = .inr e
  | 0, hm => by rw [show j = 0 by omega] at h; exact h
  | m + 1, hm => by
    by_cases q : j = m + 1
    · rw [← q]; exact h
    · rw [dalr, dalr_bad h m (by omega)]; rfl
theorem dall_bad {d : Nat} {f : Nat → Int32} {l : Nat → Nat} {e k : Nat} (h : dall d f l k = .inr e) : ∀ m, k ≤ m → dall d f l m = .inr e
  | 0, hm => by rw [show k = 0 by omega] at h; exact h
  | m + 1, hm => by
    by_cases q : k = m + 1
    · rw [← q]; exact h
    · rw [dall, dall_bad h m (by omega)]
      exact dalr_bad (j := 0) rfl _ (by omega)
theorem lnR_ok {n d i m : Nat} {l : Nat → Nat} {f : Nat → Int32} (hf : nok n d f) (hl : lok n l m) (hm : 2 ≤ m) : dok n d (lnR d i l m f) := by
  unfold lnR
  split
  · exact drow_ok hf hl.1 (m - 1) (by omega)
  · split
    · exact dj_ok (drow_ok hf hl.1 (m - 1) (by omega)) (hl.1 _ (by omega)) (hl.1 _ (by omega))
    · split
      · exact dall_ok hf hl.1 (m - 1) (by omega)
      · split
        · exact dstr_ok hf hl.1 (m - 1) (by omega)
        · unfold doff
          refine ⟨fun g q => ?_, fun e q => ?_⟩
          · split at q
            · cases q; exact nok_pt hf (hl.1 _ (by omega)) (hl.1 _ (by omega))
            · cases q
          · split at q
            · cases q
            · cases q; exact Or.inl rfl
/-- a clause: a fault (0: none), the token at hand, the net -/
abbrev ccS : Type := Nat × Nat × (Nat → Int32)
/-- the knots of a clause of the i-th kind -/
def clK (tb : Nat → Nat) (z n i b : Nat) : kS := if i = 4 then kn1 tb z n (kn1 tb z n (0, nb tb z b, fun _ => 0, 0)) else knL tb z n 11 (kn1 tb z n (kn1 tb z n (0, nb tb z b, fun _ => 0, 0)))
def clE (tb : Nat → Nat) (z d i : Nat) (f : Nat → Int32) (s : kS) : ccS := if s.1 ≠ 0 then (s.1, s.2.1, f) else if kd tb z s.2.1 ≠ 3 then (1, s.2.1, f) else match lnR d i s.2.2.1 s.2.2.2 f with
  | .inr e => (e, s.2.1, f)
  | .inl g => (0, nb tb z s.2.1, g)
noncomputable def clS (tb : Nat → Nat) (z n d : Nat) (f : Nat → Int32) (c b : Nat) : ccS := match kwI tb z b with
  | none => (1, b, f)
  | some i => if 4 < i then (1, b, f) else if c = 20 then (2, b, f) else clE tb z d i f (clK tb z n i b)
noncomputable def csS (tb : Nat → Nat) (z n d : Nat) : Nat → (Nat → Int32) → Nat → Nat → ccS
  | 0, f, _, b => (0, b, f)
  | u + 1, f, c, b => if kd tb z b = 0 then (0, b, f) else if (clS tb z n d f c b).1 ≠ 0 then clS tb z n d f c b else csS tb z n d u (clS tb z n d f c b).2.2 (c + 1) (clS tb z n d f c b).2.1
theorem clK_ok {tb : Nat → Nat} {z n i b : Nat} (hb : b ≤ z) : (clK tb z n i b).2.1 ≤ z ∧ lok n (clK tb z n i b).2.2.1 (clK tb z n i b).2.2.2 ∧ (clK tb z n i b).1 ≤ 6 := by
  obtain ⟨a1, a2, a3⟩ := kn1_ok (tb := tb) (z := z) (n := n) (s := (0, nb tb z b, fun _ => 0, 0)) (nb_le hb) (lok_0 n _) (by show 0 ≤ 6; omega)
  obtain ⟨b1_, b2_, b3_⟩ := kn1_ok (tb := tb) (z := z) (n := n) a1 a2 a3
  unfold clK
  split
  · exact ⟨b1_, b2_, b3_⟩
  · exact knL_ok 11 b1_ b2_ b3_
theorem kn1_m {tb : Nat → Nat} {z n : Nat} {s : kS} (h : (kn1 tb z n s).1 = 0) : s.1 = 0 ∧ (kn1 tb z n s).2.2.2 = s.2.2.2 + 1 := by
  unfold kn1 at h ⊢
  split
  · rename_i q
    rw [if_pos q] at h
    exact absurd h q
  · rename_i q
    rw [if_neg q] at h
    split
    · exact ⟨by omega, rfl⟩
    · rename_i q2
      rw [if_neg q2] at h
      exact absurd h q2
theorem knL_m {tb : Nat → Nat} {z n : Nat} : ∀ (u : Nat) {s : kS}, (knL tb z n u s).1 = 0 → s.1 = 0 ∧ s.2.2.2 ≤ (knL tb z n u s).2.2.2
  | 0, s, h => ⟨h, Nat.le_refl _⟩
  | u + 1, s, h => by
    rw [knL] at h ⊢
    split
    · rename_i q
      rw [if_pos q] at h
      obtain ⟨a, b⟩ := knL_m u h
      exact ⟨q.1, by have := (kn1_m a).2; omega⟩
    · rename_i q
      rw [if_neg q] at h
      exact ⟨h, Nat.le_refl _⟩
theorem clK_2 {tb : Nat → Nat} {z n i b : Nat} (h : (clK tb z n i b).1 = 0) : 2 ≤ (clK tb z n i b).2.2.2 := by
  unfold clK at h ⊢
  split
  · rename_i q
    rw [if_pos q] at h
    obtain ⟨a, e⟩ := kn1_m h
    obtain ⟨-, e2⟩ := kn1_m a
    rw [e, e2]; exact Nat.le_refl _
  · rename_i q
    rw [if_neg q] at h
    obtain ⟨a, e⟩ := knL_m 11 h
    obtain ⟨a2, e2⟩ := kn1_m a
    obtain ⟨-, e3⟩ := kn1_m a2
    rw [e2, e3] at e
    exact e
/-- a clause keeps the net a net -/
theorem clS_ok {tb : Nat → Nat} {z n d c b : Nat} {f : Nat → Int32} (hf : nok n d f) (hb : b ≤ z) : (clS tb z n d f c b).1 ≤ 6 ∧ (clS tb z n d f c b).2.1 ≤ z ∧ ((clS tb z n d f c b).1 = 0 → nok n d (clS tb z n d f c b).2.2) := by
  unfold clS
  split
  · exact ⟨by show 1 ≤ 6; omega, hb, fun e => (by cases e)⟩
  · rename_i i _
    split
    · exact ⟨by show 1 ≤ 6; omega, hb, fun e => (by cases e)⟩
    · split
      · exact ⟨by show 2 ≤ 6; omega, hb, fun e => (by cases e)⟩
      · obtain ⟨k1, k2, k3⟩ := clK_ok (tb := tb) (z := z) (n := n) (i := i) hb
        have k4 := clK_2 (tb := tb) (z := z) (n := n) (i := i) (b := b)
        generalize clK tb z n i b = s at k1 k2 k3 k4
        unfold clE
        split
        · rename_i q
          exact ⟨k3, k1, fun e => absurd e q⟩
        · rename_i q
          split
          · exact ⟨by show 1 ≤ 6; omega, k1, fun e => (by cases e)⟩
          · have hd := lnR_ok (i := i) hf k2 (k4 (by omega))
            split
            · rename_i e he
              have := hd.2 e he
              exact ⟨by show e ≤ 6; omega, k1, fun e0 => by have e0 : e = 0 := e0; omega⟩
            · rename_i g hg
              exact ⟨by show 0 ≤ 6; omega, nb_le k1, fun _ => hd.1 g hg⟩
theorem csS_ok {tb : Nat → Nat} {z n d : Nat} : ∀ (u : Nat) {f : Nat → Int32} {c b : Nat}, nok n d f → b ≤ z → (csS tb z n d u f c b).1 ≤ 6 ∧ (csS tb z n d u f c b).2.1 ≤ z ∧ ((csS tb z n d u f c b).1 = 0 → nok n d (csS tb z n d u f c b).2.2)
  | 0, f, c, b, hf, hb => ⟨by show 0 ≤ 6; omega, hb, fun _ => hf⟩
  | u + 1, f, c, b, hf, hb => by
    rw [csS]
    split
    · exact ⟨by show 0 ≤ 6; omega, hb, fun _ => hf⟩
    · obtain ⟨a1, a2, a3⟩ := clS_ok (tb := tb) (z := z) (c := c) hf hb
      split
      · exact ⟨a1, a2, a3⟩
      · exact csS_ok u (a3 (by omega)) a2
/-- the whole text: a fault and its place, or a net -/
abbrev rS2 : Type := (Nat × Nat) ⊕ (Nat × Nat × (Nat → Int32))
def needS (tb : Nat → Nat) (z e b : Nat) (is : Bool) : Nat × Nat := if e ≠ 0 then (e, b) else if is = true then (0, nb tb z b) else (1, b)
def numS (tb : Nat → Nat) (z lo hi e b : Nat) : Nat × Nat := if e ≠ 0 then (e, b) else if nuE tb z lo hi b = 0 then (0, nb tb z b) else (nuE tb z lo hi b, b)
/-- the head of a text, token by token -/
noncomputable def rq1 (tb : Nat → Nat) (z : Nat) : Nat × Nat := needS tb z 0 (sk tb z 0) (isWb tb z (sk tb z 0) 5)
noncomputable def rq2 (tb : Nat → Nat) (z : Nat) : Nat × Nat := numS tb z 1 24 (rq1 tb z).1 (rq1 tb z).2
noncomputable def rq3 (tb : Nat → Nat) (z : Nat) : Nat × Nat := needS tb z (rq2 tb z).1 (rq2 tb z).2 (isWb tb z (rq2 tb z).2 6)
noncomputable def rq4 (tb : Nat → Nat) (z : Nat) : Nat × Nat := numS tb z 1 8 (rq3 tb z).1 (rq3 tb z).2
noncomputable def rq5 (tb : Nat → Nat) (z : Nat) : Nat × Nat := needS tb z (rq4 tb z).1 (rq4 tb z).2 (decide (kd tb z (rq4 tb z).2 = 3))
noncomputable def rqN (tb : Nat → Nat) (z : Nat) : Nat := rv tb z (rq1 tb z).2
noncomputable def rqD (tb : Nat → Nat) (z : Nat) : Nat := rv tb z (rq3 tb z).2
noncomputable def rqR (tb : Nat → Nat) (z : Nat) : ccS := csS tb z (rqN tb z) (rqD tb z) 22 (fun _ => nI 0) 0 (rq5 tb z).2
noncomputable def rdS (tb : Nat → Nat) (z : Nat) : rS2 := if (rq5 tb z).1 ≠ 0 then .inl (rq5 tb z) else if (rqR tb z).1 ≠ 0 then .inl ((rqR tb z).1, (rqR tb z).2.1) else .inr (rqN tb z, rqD tb z, (rqR tb z).2.2)
theorem nuE_0 {tb : Nat → Nat} {z lo hi b : Nat} (h : nuE tb z lo hi b = 0) : kd tb z b = 2 ∧ en tb z b - b ≤ 3 ∧ lo ≤ rv tb z b ∧ rv tb z b ≤ hi := by
  unfold nuE at h
  split at h
  · omega
  · split at h
    · omega
    · exact ⟨by omega, by omega, by omega, by omega⟩
theorem nok_zero0 {n d : Nat} (h1 : 1 ≤ n) (h2 : n ≤ 24) (h3 : 1 ≤ d) (h4 : d ≤ 8) : nok n d (fun _ => nI 0) :=
  ⟨h1, h2, h3, h4, fun _ _ _ _ => by rw [show ∀ k, bt (nI 0) k = false from b_0, show ∀ k, bt (nI 0) k = false from b_0], fun _ _ => b_0 _, fun _ _ _ _ => b_0 _, fun _ _ => by rw [pc32_0]; omega, fun _ _ _ => rfl⟩
theorem needS_z {tb : Nat → Nat} {z e b : Nat} {is : Bool} (h : (needS tb z e b is).1 = 0) : e = 0 ∧ is = true ∧ (needS tb z e b is).2 = nb tb z b := by
  unfold needS at h ⊢
  by_cases c : e ≠ 0
  · rw [if_pos c] at h; exact absurd h c
  · rw [if_neg c] at h ⊢
    cases is with
    | true => exact ⟨by omega, rfl, rfl⟩
    | false => cases h
theorem needS_bad {tb : Nat → Nat} {z e b : Nat} {is : Bool} (h : e ≠ 0) : needS tb z e b is = (e, b) := if_pos h
theorem needS_f {tb : Nat → Nat} {z b : Nat} : needS tb z 0 b false = (1, b) := rfl
theorem needS_t {tb : Nat → Nat} {z b : Nat} : needS tb z 0 b true = (0, nb tb z b) := rfl
theorem needS_ok {tb : Nat → Nat} {z e b : Nat} {is : Bool} (hb : b ≤ z) (he : e ≤ 6) : (needS tb z e b is).2 ≤ z ∧ (needS tb z e b is).1 ≤ 6 := by
  unfold needS
  split
  · exact ⟨hb, he⟩
  · split
    · exact ⟨nb_le hb, by show 0 ≤ 6; omega⟩
    · exact ⟨hb, by show 1 ≤ 6; omega⟩
theorem numS_z {tb : Nat → Nat} {z lo hi e b : Nat} (h : (numS tb z lo hi e b).1 = 0) : e = 0 ∧ nuE tb z lo hi b = 0 ∧ (numS tb z lo hi e b).2 = nb tb z b := by
  unfold numS at h ⊢
  by_cases c : e ≠ 0
  · rw [if_pos c] at h; exact absurd h c
  · rw [if_neg c] at h ⊢
    by_cases c2 : nuE tb z lo hi b = 0
    · rw [if_pos c2]; exact ⟨by omega, c2, rfl⟩
    · rw [if_neg c2] at h; exact absurd h c2
theorem numS_bad {tb : Nat → Nat} {z lo hi e b : Nat} (h : e ≠ 0) : numS tb z lo hi e b = (e, b) := if_pos h
theorem numS_0 {tb : Nat → Nat} {z lo hi b : Nat} (h : nuE tb z lo hi b = 0) : numS tb z lo hi 0 b = (0, nb tb z b) := by
  unfold numS
  rw [if_neg (by decide), if_pos h]
theorem numS_f {tb : Nat → Nat} {z lo hi b : Nat} (h : nuE tb z lo hi b ≠ 0) : numS tb z lo hi 0 b = (nuE tb z lo hi b, b) := by
  unfold numS
  rw [if_neg (by decide), if_neg h]
theorem numS_ok {tb : Nat → Nat} {z lo hi e b : Nat} (hb : b ≤ z) (he : e ≤ 6) : (numS tb z lo hi e b).2 ≤ z ∧ (numS tb z lo hi e b).1 ≤ 6 := by
  have := nuE_le tb z lo hi b
  unfold numS
  split
  · exact ⟨hb, he⟩
  · split
    · exact ⟨nb_le hb, by show 0 ≤ 6; omega⟩
    · exact ⟨hb, by show nuE tb z lo hi b ≤ 6; omega⟩
theorem rq_ok (tb : Nat → Nat) (z : Nat) : ((rq1 tb z).2 ≤ z ∧ (rq1 tb z).1 ≤ 6) ∧ ((rq2 tb z).2 ≤ z ∧ (rq2 tb z).1 ≤ 6) ∧ ((rq3 tb z).2 ≤ z ∧ (rq3 tb z).1 ≤ 6) ∧ ((rq4 tb z).2 ≤ z ∧ (rq4 tb z).1 ≤ 6) ∧ ((rq5 tb z).2 ≤ z ∧ (rq5 tb z).1 ≤ 6) := by
  have a1 : (rq1 tb z).2 ≤ z ∧ (rq1 tb z).1 ≤ 6 := needS_ok ((sk_ge tb z 0).2 (by omega)) (by omega)
  have a2 : (rq2 tb z).2 ≤ z ∧ (rq2 tb z).1 ≤ 6 := numS_ok a1.1 a1.2
  have a3 : (rq3 tb z).2 ≤ z ∧ (rq3 tb z).1 ≤ 6 := needS_ok a2.1 a2.2
  have a4 : (rq4 tb z).2 ≤ z ∧ (rq4 tb z).1 ≤ 6 := numS_ok a3.1 a3.2
  exact ⟨a1, a2, a3, a4, needS_ok a4.1 a4.2⟩
theorem rq_0 {tb : Nat → Nat} {z : Nat} (h : (rq5 tb z).1 = 0) : (rq2 tb z).1 = 0 ∧ (rq4 tb z).1 = 0 ∧ 1 ≤ rqN tb z ∧ rqN tb z ≤ 24 ∧ 1 ≤ rqD tb z ∧ rqD tb z ≤ 8 := by
  have h4 : (rq4 tb z).1 = 0 := (needS_z h).1
  obtain ⟨h3, n4, -⟩ := numS_z h4
  have h2 : (rq2 tb z).1 = 0 := (needS_z h3).1
  obtain ⟨-, n2, -⟩ := numS_z h2
  have u2 := nuE_0 n2
  have u4 := nuE_0 n4
  exact ⟨h2, h4, u2.2.2.1, u2.2.2.2, u4.2.2.1, u4.2.2.2⟩
theorem rq_5 {tb : Nat → Nat} {z : Nat} (h : (rq4 tb z).1 ≠ 0) : rq5 tb z = rq4 tb z := needS_bad h
theorem rq_4 {tb : Nat → Nat} {z : Nat} (h : (rq3 tb z).1 ≠ 0) : rq4 tb z = rq3 tb z := numS_bad h
theorem rq_3 {tb : Nat → Nat} {z : Nat} (h : (rq2 tb z).1 ≠ 0) : rq3 tb z = rq2 tb z := needS_bad h
theorem rq_2 {tb : Nat → Nat} {z : Nat} (h : (rq1 tb z).1 ≠ 0) : rq2 tb z = rq1 tb z := numS_bad h
theorem rdS_5 {tb : Nat → Nat} {z : Nat} (h : (rq5 tb z).1 ≠ 0) : rdS tb z = .inl (rq5 tb z) := if_pos h
theorem rdS_R {tb : Nat → Nat} {z : Nat} (h : (rq5 tb z).1 = 0) : rdS tb z = if (rqR tb z).1 ≠ 0 then .inl ((rqR tb z).1, (rqR tb z).2.1) else .inr (rqN tb z, rqD tb z, (rqR tb z).2.2) := if_neg (fun w => w h)
theorem rdS_4 {tb : Nat → Nat} {z : Nat} (h : (rq4 tb z).1 ≠ 0) : rdS tb z = .inl (rq4 tb z) := by
  rw [rdS_5 (by rw [rq_5 h]; exact h), rq_5 h]
theorem rdS_3 {tb : Nat → Nat} {z : Nat} (h : (rq3 tb z).1 ≠ 0) : rdS tb z = .inl (rq3 tb z) := by
  rw [rdS_4 (by rw [rq_4 h]; exact h), rq_4 h]
theorem rdS_2 {tb : Nat → Nat} {z : Nat} (h : (rq2 tb z).1 ≠ 0) : rdS tb z = .inl (rq2 tb z) := by
  rw [rdS_3 (by rw [rq_3 h]; exact h), rq_3 h]
theorem rdS_1 {tb : Nat → Nat} {z : Nat} (h : (rq1 tb z).1 ≠ 0) : rdS tb z = .inl (rq1 tb z) := by
  rw [rdS_2 (by rw [rq_2 h]; exact h), rq_2 h]
theorem clS_20 {tb : Nat → Nat} {z n d b : Nat} {f : Nat → Int32} : (clS tb z n d f 20 b).1 ≠ 0 := by
  unfold clS
  split
  · exact Nat.one_ne_zero
  · split
    · exact Nat.one_ne_zero
    · rw [if_pos rfl]; exact (by decide : (2 : Nat) ≠ 0)
end C9yt
