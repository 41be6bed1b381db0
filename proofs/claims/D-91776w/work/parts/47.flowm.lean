/-! flows: what a least cut is, and that a way found takes one off every cut -/
section C47M
theorem sm_le_sm {f g : Nat → Nat} : ∀ {n : Nat}, (∀ k, k < n → f k ≤ g k) → fb_sm f n ≤ fb_sm g n := fb_sm_le
theorem zup2_nI {M : Nat → Nat → Int32} {R : Nat → Nat → Nat} {u v x p q : Nat} (h : M p q = nI (R p q)) : zup2 M u v (nI x) p q = nI (zup2 R u v x p q) := by
  unfold zup2
  split
  · split
    · rfl
    · exact h
  · exact h
theorem zup2_pq {α : Type} (M : Nat → Nat → α) (i j : Nat) (x : α) (p q : Nat) : zup2 M i j x p q = if p = i ∧ q = j then x else M p q := by
  unfold zup2
  by_cases h : p = i
  · by_cases h2 : q = j
    · simp [h, h2]
    · simp [h, h2]
  · simp [h]
def cutr (R : Nat → Nat → Nat) (V : Nat) (S : Nat → Bool) : Nat := fb_sm (fun p => fb_sm (fun q => if S p && !S q then R p q else 0) V) V
theorem cutr_up {R : Nat → Nat → Nat} {V u v x : Nat} {S : Nat → Bool} (hu : u < V) (hv : v < V) : cutr (zup2 R u v x) V S + (if S u && !S v then R u v else 0) = cutr R V S + (if S u && !S v then x else 0) := by
  have h1 : ∀ p, p < V → fb_sm (fun q => if S p && !S q then zup2 R u v x p q else 0) V = if p = u then fb_sm (fun q => if q = v then (if S u && !S v then x else 0) else (if S u && !S q then R u q else 0)) V else fb_sm (fun q => if S p && !S q then R p q else 0) V := by
    intro p hp
    by_cases e : p = u
    · subst e
      rw [if_pos rfl]
      refine fb_sm_cong fun q _ => ?_
      by_cases e2 : q = v
      · subst e2; simp [zup2]
      · simp [zup2, e2]
    · rw [if_neg e]
      refine fb_sm_cong fun q _ => ?_
      simp [zup2, e]
  have h2 : cutr (zup2 R u v x) V S = fb_sm (fun p => if p = u then fb_sm (fun q => if q = v then (if S u && !S v then x else 0) else (if S u && !S q then R u q else 0)) V else fb_sm (fun q => if S p && !S q then R p q else 0) V) V := fb_sm_cong h1
  have h3 := fb_sm_upd (fun p => fb_sm (fun q => if S p && !S q then R p q else 0) V) (fb_sm (fun q => if q = v then (if S u && !S v then x else 0) else (if S u && !S q then R u q else 0)) V) hu
  have h4 := fb_sm_upd (fun q => if S u && !S q then R u q else 0) (if S u && !S v then x else 0) hv
  rw [h2]
  unfold cutr
  omega
/-- a unit goes from u to v: there is one less, and one more back -/
def mvR (R : Nat → Nat → Nat) (u v : Nat) : Nat → Nat → Nat := zup2 (zup2 R u v (R u v - 1)) v u (zup2 R u v (R u v - 1) v u + 1)
theorem mvR_at {R : Nat → Nat → Nat} {u v : Nat} (h : u ≠ v) (p q : Nat) : mvR R u v p q = if p = u ∧ q = v then R u v - 1 else if p = v ∧ q = u then R v u + 1 else R p q := by
  unfold mvR
  rw [zup2_pq, zup2_pq, zup2_pq, if_neg (show ¬ (v = u ∧ u = v) from fun z => h z.2)]
  by_cases a : p = u ∧ q = v
  · rw [if_pos a, if_pos a, if_neg (show ¬ (p = v ∧ q = u) from fun z => h (a.1.symm.trans z.1))]
  · rw [if_neg a, if_neg a]
theorem cutr_mv {R : Nat → Nat → Nat} {V u v : Nat} {S : Nat → Bool} (hu : u < V) (hv : v < V) (hne : u ≠ v) (h1 : 1 ≤ R u v) : cutr (mvR R u v) V S + (if S u && !S v then 1 else 0) = cutr R V S + (if S v && !S u then 1 else 0) := by
  have a := cutr_up (R := R) (x := R u v - 1) (S := S) hu hv
  have b := cutr_up (R := zup2 R u v (R u v - 1)) (x := zup2 R u v (R u v - 1) v u + 1) (S := S) hv hu
  unfold mvR
  cases hsu : S u <;> cases hsv : S v <;> simp [hsu, hsv] at a b ⊢ <;> omega
theorem mvR_sym {R : Nat → Nat → Nat} {u v : Nat} (hne : u ≠ v) (h1 : 1 ≤ R u v) (p q : Nat) : mvR R u v p q + mvR R u v q p = R p q + R q p := by
  rw [mvR_at hne, mvR_at hne]
  by_cases a : p = u ∧ q = v
  · obtain ⟨rfl, rfl⟩ := a
    rw [if_pos ⟨rfl, rfl⟩, if_neg (fun z => hne z.1.symm), if_pos ⟨rfl, rfl⟩]; omega
  · by_cases b : p = v ∧ q = u
    · obtain ⟨rfl, rfl⟩ := b
      rw [if_neg a, if_pos ⟨rfl, rfl⟩, if_pos ⟨rfl, rfl⟩]; omega
    · rw [if_neg a, if_neg b, if_neg (fun z => b ⟨z.2, z.1⟩), if_neg (fun z => a ⟨z.2, z.1⟩)]
def isMin (R : Nat → Nat → Nat) (V a b w : Nat) : Prop := (∀ S : Nat → Bool, S a = true → S b = false → w ≤ cutr R V S) ∧ ∃ S : Nat → Bool, S a = true ∧ S b = false ∧ w = cutr R V S
theorem isMin_one {R : Nat → Nat → Nat} {V a b w w' : Nat} (h : isMin R V a b w) (h' : isMin R V a b w') : w = w' := by
  obtain ⟨S, s1, s2, s3⟩ := h.2
  obtain ⟨T, t1, t2, t3⟩ := h'.2
  have := h.1 T t1 t2
  have := h'.1 S s1 s2
  omega
/-- the search as it stands: c are the places come to, in their order -/
def fnv (R : Nat → Nat → Nat) (V a many : Nat) (fr ln : Nat → Int32) (c : Nat → Nat) : Prop :=
  (∀ j, j < many → ln j = nI (c j) ∧ c j < V) ∧ c 0 = a ∧ 0 < many ∧ (∀ i j, i < j → j < many → c i ≠ c j) ∧ fr a = nI a ∧
  (∀ j, 0 < j → j < many → ∃ i, i < j ∧ fr (c j) = nI (c i) ∧ R (c i) (c j) ≠ 0) ∧ ∀ q, q < V → (∀ j, j < many → c j ≠ q) → fr q = -1
theorem nI_ne {k : Nat} (h : k < 2 ^ 31) : ¬ nI k = -1 := fun e => by
  have h1 : ¬ nI k < 0 := nI_pos h
  rw [e] at h1
  exact h1 (by decide)
theorem fnv.le {R : Nat → Nat → Nat} {V a many : Nat} {fr ln : Nat → Int32} {c : Nat → Nat} (h : fnv R V a many fr ln c) : many ≤ V := fb_holes V many c (fun i hi => (h.1 i hi).2) h.2.2.2.1
theorem fnv.lt {R : Nat → Nat → Nat} {V a many : Nat} {fr ln : Nat → Int32} {c : Nat → Nat} (h : fnv R V a many fr ln c) {q : Nat} (hq : q < V) (hn : ∀ j, j < many → c j ≠ q) : many < V := by
  have := fb_holes V (many + 1) (fun i => if i = many then q else c i) (fun i hi => ?_) (fun i j hij hj => ?_)
  · exact this
  · show (if i = many then q else c i) < V
    split
    · exact hq
    · exact (h.1 i (by omega)).2
  · show (if i = many then q else c i) ≠ (if j = many then q else c j)
    rw [if_neg (by omega)]
    split
    · exact hn i (by omega)
    · exact h.2.2.2.1 i j hij (by omega)
theorem fnv.at {R : Nat → Nat → Nat} {V a many : Nat} {fr ln : Nat → Int32} {c : Nat → Nat} (h : fnv R V a many fr ln c) (hV : V ≤ 48) {j : Nat} (hj : j < many) : ∃ u, u < V ∧ fr (c j) = nI u := by
  by_cases e : j = 0
  · subst e
    rw [h.2.1]
    exact ⟨a, by have := (h.1 0 h.2.2.1).2; rw [h.2.1] at this; exact this, h.2.2.2.2.1⟩
  · obtain ⟨i, hi, h2, -⟩ := h.2.2.2.2.2.1 j (by omega) hj
    exact ⟨c i, (h.1 i (by omega)).2, h2⟩
theorem fnv.vis {R : Nat → Nat → Nat} {V a many : Nat} {fr ln : Nat → Int32} {c : Nat → Nat} (h : fnv R V a many fr ln c) (hV : V ≤ 48) {q : Nat} (hq : q < V) : ¬ fr q = -1 ↔ ∃ j, j < many ∧ c j = q := by
  constructor
  · intro hn
    refine Classical.byContradiction fun hh => hn (h.2.2.2.2.2.2 q hq fun j hj e => hh ⟨j, hj, e⟩)
  · rintro ⟨j, hj, rfl⟩
    obtain ⟨u, hu, e⟩ := h.at hV hj
    rw [e]
    exact nI_ne (by omega)
theorem fnv.add {R : Nat → Nat → Nat} {V a many : Nat} {fr ln : Nat → Int32} {c : Nat → Nat} (h : fnv R V a many fr ln c) {i q : Nat} (hi : i < many) (hq : q < V) (hf : ∀ j, j < many → c j ≠ q) (hR : R (c i) q ≠ 0) :
    fnv R V a (many + 1) (upd fr q (nI (c i))) (upd ln many (nI q)) (fun k => if k = many then q else c k) := by
  obtain ⟨h1, h2, h3, h4, h5, h6, h7⟩ := h
  have e : ∀ k, k < many → (if k = many then q else c k) = c k := fun k hk => if_neg (by omega)
  refine ⟨fun j hj => ?_, ?_, by omega, fun x y hxy hy => ?_, ?_, fun j hj0 hj => ?_, fun p hp hh => ?_⟩
  · show upd ln many (nI q) j = _ ∧ _
    rw [upd_at]
    by_cases ej : j = many
    · simp only [ej, if_true]; exact ⟨trivial, hq⟩
    · simp only [ej, if_false]; exact h1 j (by omega)
  · show (if (0 : Nat) = many then q else c 0) = a
    rw [if_neg (by omega)]; exact h2
  · show (if x = many then q else c x) ≠ (if y = many then q else c y)
    rw [e x (by omega)]
    by_cases ey : y = many
    · rw [if_pos ey]; exact hf x (by omega)
    · rw [if_neg ey]; exact h4 x y hxy (by omega)
  · rw [upd_at, if_neg (by rw [← h2]; exact hf 0 h3)]; exact h5
  · by_cases ej : j = many
    · refine ⟨i, by omega, ?_, ?_⟩
      · show upd fr q (nI (c i)) (if j = many then q else c j) = nI (if i = many then q else c i)
        rw [if_pos ej, e i hi, upd_at, if_pos rfl]
      · show R (if i = many then q else c i) (if j = many then q else c j) ≠ 0
        rw [if_pos ej, e i hi]; exact hR
    · obtain ⟨k, hk, k1, k2⟩ := h6 j hj0 (by omega)
      refine ⟨k, hk, ?_, ?_⟩
      · show upd fr q (nI (c i)) (if j = many then q else c j) = nI (if k = many then q else c k)
        rw [if_neg ej, e k (by omega), upd_at, if_neg (hf j (by omega))]; exact k1
      · show R (if k = many then q else c k) (if j = many then q else c j) ≠ 0
        rw [if_neg ej, e k (by omega)]; exact k2
  · have hp2 := hh many (by omega)
    simp only [if_true] at hp2
    rw [upd_at, if_neg (fun z => hp2 z.symm)]
    exact h7 p hp fun j hj => by have := hh j (by omega); simp only [e j hj] at this; exact this
theorem fnv.cong {R : Nat → Nat → Nat} {V a many : Nat} {fr ln fr' ln' : Nat → Int32} {c : Nat → Nat} (h : fnv R V a many fr ln c) (hV : V ≤ 48) (h1 : ∀ k, k < 48 → fr' k = fr k) (h2 : ∀ k, k < 48 → ln' k = ln k) : fnv R V a many fr' ln' c := by
  have hm := h.le
  obtain ⟨a1, a2, a3, a4, a5, a6, a7⟩ := h
  have ha : a < V := by rw [← a2]; exact (a1 0 a3).2
  exact ⟨fun j hj => by rw [h2 j (by omega)]; exact a1 j hj, a2, a3, a4, by rw [h1 a (by omega)]; exact a5, fun j h0 hj => by rw [h1 _ (by have := (a1 j hj).2; omega)]; exact a6 j h0 hj, fun q hq hh => by rw [h1 q (by omega)]; exact a7 q hq hh⟩
/-- all that can be come to from the places ahead of i has been -/
def fdn (R : Nat → Nat → Nat) (V many : Nat) (c : Nat → Nat) (i : Nat) : Prop := ∀ k, k < i → ∀ q, q < V → R (c k) q ≠ 0 → ∃ j, j < many ∧ c j = q
theorem cutr_zero {R : Nat → Nat → Nat} {V : Nat} {S : Nat → Bool} (h : ∀ p q, p < V → q < V → S p = true → S q = false → R p q = 0) : cutr R V S = 0 := by
  have e : ∀ m, fb_sm (fun p => if p < V then 0 else 0) m = 0 := fun m => by
    have := fb_sm_const 0 m
    simpa using this
  have : cutr R V S = fb_sm (fun p => if p < V then 0 else 0) V := fb_sm_cong fun p hp => by
    have h2 : fb_sm (fun q => if S p && !S q then R p q else 0) V = fb_sm (fun _ => 0) V := fb_sm_cong fun q hq => by
      cases h3 : S p <;> cases h4 : S q <;> simp
      exact h p q hp hq h3 h4
    rw [h2, fb_sm_const]; simp
  rw [this, e]
theorem fnv.dead {R : Nat → Nat → Nat} {V a many b : Nat} {fr ln : Nat → Int32} {c : Nat → Nat} (h : fnv R V a many fr ln c) (hV : V ≤ 48) (hd : fdn R V many c many) (hb : b < V) (hn : fr b = -1) : ∃ S : Nat → Bool, S a = true ∧ S b = false ∧ cutr R V S = 0 := by
  classical
  refine ⟨fun q => decide (∃ j, j < many ∧ c j = q), ?_, ?_, cutr_zero fun p q hp hq h1 h2 => ?_⟩
  · simp only [decide_eq_true_eq]; exact ⟨0, h.2.2.1, h.2.1⟩
  · simp only [decide_eq_false_iff_not]
    exact fun q => (h.vis hV hb).mpr q hn
  · simp only [decide_eq_true_eq] at h1
    simp only [decide_eq_false_iff_not] at h2
    obtain ⟨j, hj, rfl⟩ := h1
    refine Classical.byContradiction fun h3 => h2 (hd j hj q hq h3)
/-- along the way back: p = c j is come to; what went along so far -/
def awy (R0 R : Nat → Nat → Nat) (V a b : Nat) (fr : Nat → Int32) (c : Nat → Nat) (j : Nat) : Prop :=
  (∀ k, 0 < k → k ≤ j → ∃ i, i < k ∧ fr (c k) = nI (c i) ∧ R (c i) (c k) ≠ 0) ∧ (∀ p q, R p q + R q p = R0 p q + R0 q p) ∧ ∀ S : Nat → Bool, S a = true → S b = false → cutr R V S + (if S (c j) then 1 else 0) = cutr R0 V S
theorem fnv.way {R : Nat → Nat → Nat} {V a many : Nat} {fr ln : Nat → Int32} {c : Nat → Nat} (h : fnv R V a many fr ln c) {j : Nat} (hj : j < many) : awy R R V a (c j) fr c j :=
  ⟨fun k h0 hk => h.2.2.2.2.2.1 k h0 (by omega), fun _ _ => rfl, fun S _ hb => by rw [hb]; rfl⟩
theorem awy.step {R0 R : Nat → Nat → Nat} {V a b : Nat} {fr : Nat → Int32} {c : Nat → Nat} {j : Nat} (h : awy R0 R V a b fr c j) (h0 : 0 < j) (hlt : ∀ k, k ≤ j → c k < V) (hinj : ∀ i k, i < k → k ≤ j → c i ≠ c k) : ∃ i, i < j ∧ fr (c j) = nI (c i) ∧ 1 ≤ R (c i) (c j) ∧ c i ≠ c j ∧ awy R0 (mvR R (c i) (c j)) V a b fr c i := by
  obtain ⟨i, hi, h1, h2⟩ := h.1 j h0 (Nat.le_refl _)
  have hne := hinj i j hi (Nat.le_refl _)
  have h3 : 1 ≤ R (c i) (c j) := Nat.pos_of_ne_zero h2
  refine ⟨i, hi, h1, h3, hne, fun k hk0 hk => ?_, fun p q => ?_, fun S sa sb => ?_⟩
  · obtain ⟨x, hx, x1, x2⟩ := h.1 k hk0 (by omega)
    refine ⟨x, hx, x1, ?_⟩
    rw [mvR_at hne, if_neg (fun z => hinj k j (by omega) (Nat.le_refl _) z.2)]
    split
    · omega
    · exact x2
  · rw [mvR_sym hne h3]; exact h.2.1 p q
  · have a1 := cutr_mv (S := S) (hlt i (by omega)) (hlt j (Nat.le_refl _)) hne h3
    have a2 := h.2.2 S sa sb
    cases q1 : S (c i) <;> cases q2 : S (c j) <;> simp [q1, q2] at a1 a2 ⊢ <;> omega
/-- so many ways found -/
def flw (R0 R : Nat → Nat → Nat) (V a b w : Nat) : Prop := (∀ p q, R p q + R q p = R0 p q + R0 q p) ∧ ∀ S : Nat → Bool, S a = true → S b = false → cutr R V S + w = cutr R0 V S
theorem flw.next {R0 R R1 : Nat → Nat → Nat} {V a b w : Nat} {fr : Nat → Int32} {c : Nat → Nat} (h : flw R0 R V a b w) (k : awy R R1 V a b fr c 0) (hc : c 0 = a) : flw R0 R1 V a b (w + 1) :=
  ⟨fun p q => (k.2.1 p q).trans (h.1 p q), fun S sa sb => by
    have a1 := h.2 S sa sb
    have a2 := k.2.2 S sa sb
    rw [hc, sa, if_pos rfl] at a2
    omega⟩
theorem flw.done {R0 R : Nat → Nat → Nat} {V a b w : Nat} (h : flw R0 R V a b w) (hd : ∃ S : Nat → Bool, S a = true ∧ S b = false ∧ cutr R V S = 0) : isMin R0 V a b w := by
  refine ⟨fun S sa sb => by have := h.2 S sa sb; omega, ?_⟩
  obtain ⟨S, sa, sb, s0⟩ := hd
  exact ⟨S, sa, sb, by have := h.2 S sa sb; omega⟩
theorem flw.rf {R0 : Nat → Nat → Nat} {V a b : Nat} : flw R0 R0 V a b 0 := ⟨fun _ _ => rfl, fun _ _ _ => rfl⟩
theorem flw.le {R0 R : Nat → Nat → Nat} {V a b w : Nat} (hab : a ≠ b) (h : flw R0 R V a b w) : w ≤ cutr R0 V (fun q => decide (q = a)) := by
  have := h.2 (fun q => decide (q = a)) (by simp) (by simp; exact fun e => hab e.symm)
  omega
-- two rows for each knot
theorem sm_two (g : Nat → Nat) : ∀ n, fb_sm g (2 * n) = fb_sm (fun x => g (2 * x) + g (2 * x + 1)) n
  | 0 => rfl
  | n + 1 => by
    show fb_sm g (2 * n + 1 + 1) = _
    rw [fb_sm_succ, fb_sm_succ, fb_sm_succ, sm_two g n]
    omega
/-- the cut by knots: those that are come to, those that are left -/
def cutK (n : Nat) (f : Nat → Int32) (cp : Nat) (i o : Nat → Bool) : Nat := fb_sm (fun x => (if i x && !o x then cp else 0) + fb_sm (fun y => if o x && (!i y && bt (f x) y) then 1 else 0) n) n
def isMinK (n : Nat) (f : Nat → Int32) (cp a b w : Nat) : Prop := (∀ i o : Nat → Bool, o a = true → i b = false → w ≤ cutK n f cp i o) ∧ ∃ i o : Nat → Bool, o a = true ∧ i b = false ∧ w = cutK n f cp i o
theorem isMinK_one {n : Nat} {f : Nat → Int32} {cp a b w w' : Nat} (h : isMinK n f cp a b w) (h' : isMinK n f cp a b w') : w = w' := by
  obtain ⟨i, o, s1, s2, s3⟩ := h.2
  obtain ⟨i', o', t1, t2, t3⟩ := h'.2
  have := h.1 i' o' t1 t2
  have := h'.1 i o s1 s2
  omega
/-- the rooms at the start: WiredNets -/
def R0c (n : Nat) (f : Nat → Int32) (cp : Nat) : Nat → Nat → Nat := fun p q => if p % 2 = 0 then (if q = p + 1 then cp else 0) else (if q % 2 = 0 ∧ bt (f (p / 2)) (q / 2) = true then 1 else 0)
theorem sm_hit {m k v : Nat} (h : k < m) : fb_sm (fun q => if q = k then v else 0) m = v := by
  rw [fb_one (g := fun q => if q = k then v else 0) (d := k) (fun e he => if_neg he) m, if_pos h]; simp
theorem cutr_c (n : Nat) (f : Nat → Int32) (cp : Nat) (S : Nat → Bool) : cutr (R0c n f cp) (2 * n) S = cutK n f cp (fun x => S (2 * x)) (fun x => S (2 * x + 1)) := by
  unfold cutr cutK
  rw [sm_two]
  refine fb_sm_cong fun x hx => ?_
  congr 1
  · have : fb_sm (fun q => if S (2 * x) && !S q then R0c n f cp (2 * x) q else 0) (2 * n) = fb_sm (fun q => if q = 2 * x + 1 then (if S (2 * x) && !S (2 * x + 1) then cp else 0) else 0) (2 * n) := by
      refine fb_sm_cong fun q hq => ?_
      have e : 2 * x % 2 = 0 := by omega
      by_cases h : q = 2 * x + 1
      · subst h; simp [R0c]
      · have h' : ¬ q = 2 * x + 1 := h
        simp [R0c, h']
    rw [this, sm_hit (by omega)]
  · rw [sm_two]
    refine fb_sm_cong fun y hy => ?_
    have e1 : (2 * x + 1) % 2 = 1 := by omega
    have e2 : (2 * x + 1) / 2 = x := by omega
    have e3 : 2 * y % 2 = 0 := by omega
    have e4 : (2 * y + 1) % 2 = 1 := by omega
    have e5 : 2 * y / 2 = y := by omega
    simp only [R0c, e1, e2, e3, e4, e5]
    by_cases h1 : S (2 * x + 1) = true <;> by_cases h2 : S (2 * y) = true <;> by_cases h3 : bt (f x) y = true <;> simp [h1, h2, h3]
theorem isMin_c {n : Nat} {f : Nat → Int32} {cp a b w : Nat} (h : isMin (R0c n f cp) (2 * n) (2 * a + 1) (2 * b) w) : isMinK n f cp a b w := by
  constructor
  · intro i o ho hi
    have := h.1 (fun p => if p % 2 = 0 then i (p / 2) else o (p / 2)) (by simp [show (2 * a + 1) % 2 = 1 by omega, show (2 * a + 1) / 2 = a by omega, ho]) (by simp [hi])
    rw [cutr_c] at this
    have e : cutK n f cp (fun x => (fun p => if p % 2 = 0 then i (p / 2) else o (p / 2)) (2 * x)) (fun x => (fun p => if p % 2 = 0 then i (p / 2) else o (p / 2)) (2 * x + 1)) = cutK n f cp i o := by
      congr 1
      · funext x; simp
      · funext x; simp [show (2 * x + 1) % 2 = 1 by omega, show (2 * x + 1) / 2 = x by omega]
    rw [e] at this
    exact this
  · obtain ⟨S, s1, s2, s3⟩ := h.2
    exact ⟨_, _, s1, s2, s3.trans (cutr_c n f cp S)⟩
/-- the rooms at the start: the reference by knots -/
def R0k (n : Nat) (f : Nat → Int32) : Nat → Nat → Nat := fun p q => if p < 24 then (if p < n ∧ q = p + 24 then 1 else 0) else (if p - 24 < n ∧ q < n ∧ bt (f (p - 24)) q = true then 1 else 0)
theorem sm_cutoff {g : Nat → Nat} {n m : Nat} (h : n ≤ m) (h0 : ∀ k, n ≤ k → k < m → g k = 0) : fb_sm g m = fb_sm g n := by
  obtain ⟨d, rfl⟩ : ∃ d, m = n + d := ⟨m - n, by omega⟩
  rw [fb_sm_split]
  have : fb_sm (fun k => g (n + k)) d = fb_sm (fun _ => 0) d := fb_sm_cong fun k hk => h0 _ (by omega) (by omega)
  rw [this, fb_sm_const]; omega
theorem cutr_k {n : Nat} (f : Nat → Int32) (hn : n ≤ 24) (S : Nat → Bool) : cutr (R0k n f) 48 S = cutK n f 1 S (fun x => S (x + 24)) := by
  have z : ∀ m, fb_sm (fun _ => 0) m = 0 := fun m => by rw [fb_sm_const]; simp
  unfold cutr cutK
  have e0 : fb_sm (fun p => fb_sm (fun q => if S p && !S q then R0k n f p q else 0) 48) 48 = fb_sm (fun p => fb_sm (fun q => if S p && !S q then R0k n f p q else 0) 48) 24 + fb_sm (fun k => fb_sm (fun q => if S (24 + k) && !S q then R0k n f (24 + k) q else 0) 48) 24 := fb_sm_split _ 24 24
  rw [e0]
  have e1 : fb_sm (fun p => fb_sm (fun q => if S p && !S q then R0k n f p q else 0) 48) 24 = fb_sm (fun x => if S x && !S (x + 24) then 1 else 0) n := by
    rw [sm_cutoff hn (fun k h1 h2 => ?_)]
    · refine fb_sm_cong fun x hx => ?_
      have : fb_sm (fun q => if S x && !S q then R0k n f x q else 0) 48 = fb_sm (fun q => if q = x + 24 then (if S x && !S (x + 24) then 1 else 0) else 0) 48 := by
        refine fb_sm_cong fun q hq => ?_
        by_cases h : q = x + 24
        · subst h; simp [R0k, hx, show x < 24 by omega]
        · simp [R0k, show x < 24 by omega, h]
      rw [this, sm_hit (by omega)]
    · rw [show fb_sm (fun q => if S k && !S q then R0k n f k q else 0) 48 = fb_sm (fun _ => 0) 48 from fb_sm_cong fun q _ => ?_, z]
      simp [R0k, h2, show ¬ k < n by omega]
  have e2 : fb_sm (fun k => fb_sm (fun q => if S (24 + k) && !S q then R0k n f (24 + k) q else 0) 48) 24 = fb_sm (fun x => fb_sm (fun y => if S (x + 24) && (!S y && bt (f x) y) then 1 else 0) n) n := by
    rw [sm_cutoff hn (fun k h1 h2 => ?_)]
    · refine fb_sm_cong fun x hx => ?_
      rw [sm_cutoff (show n ≤ 48 by omega) (fun k h1 h2 => ?_)]
      · refine fb_sm_cong fun y hy => ?_
        rw [Nat.add_comm x 24]
        simp only [R0k, show ¬ 24 + x < 24 by omega, if_false, show 24 + x - 24 = x by omega, hx, hy, true_and]
        cases S (24 + x) <;> cases S y <;> cases bt (f x) y <;> simp
      · simp [R0k, show ¬ k < n by omega, show ¬ 24 + x < 24 by omega]
    · rw [show fb_sm (fun q => if S (24 + k) && !S q then R0k n f (24 + k) q else 0) 48 = fb_sm (fun _ => 0) 48 from fb_sm_cong fun q _ => ?_, z]
      simp [R0k, show ¬ k < n by omega, show ¬ 24 + k < 24 by omega, Nat.add_sub_cancel_left]
  rw [e1, e2, ← fb_sm_add]
theorem isMin_k {n : Nat} {f : Nat → Int32} {a b w : Nat} (hn : n ≤ 24) (hb : b < 24) (h : isMin (R0k n f) 48 (a + 24) b w) : isMinK n f 1 a b w := by
  constructor
  · intro i o ho hi
    have := h.1 (fun p => if p < 24 then i p else o (p - 24)) (by simp [ho]) (by simp [hi, hb])
    rw [cutr_k f hn] at this
    have e : cutK n f 1 (fun p => if p < 24 then i p else o (p - 24)) (fun x => (fun p => if p < 24 then i p else o (p - 24)) (x + 24)) = cutK n f 1 i o := by
      unfold cutK
      refine fb_sm_cong fun x hx => ?_
      have e1 : x < 24 := by omega
      have e2 : ¬ x + 24 < 24 := by omega
      simp only [e1, e2, if_true, if_false, Nat.add_sub_cancel]
      congr 1
      refine fb_sm_cong fun y hy => ?_
      have e3 : y < 24 := by omega
      simp only [e3, if_true]
    rw [e] at this
    exact this
  · obtain ⟨S, s1, s2, s3⟩ := h.2
    exact ⟨_, _, s1, s2, s3.trans (cutr_k f hn S)⟩
/-- the rooms at the start: the reference by lines -/
def R0l (f : Nat → Int32) : Nat → Nat → Nat := fun p q => if bt (f p) q = true then 1 else 0
theorem isMin_l {n : Nat} {f : Nat → Int32} {a b w : Nat} (hn : n ≤ 24) (hab : a ≠ b) (ha : a < n) (h : isMin (R0l f) n a b w) : isMinK n f 24 a b w := by
  have eK : ∀ S : Nat → Bool, cutr (R0l f) n S = cutK n f 24 S S := fun S => by
    unfold cutr cutK
    refine fb_sm_cong fun x hx => ?_
    have : (if S x && !S x then 24 else 0) = 0 := by cases S x <;> rfl
    rw [this, Nat.zero_add]
    refine fb_sm_cong fun y hy => ?_
    unfold R0l
    cases S x <;> cases S y <;> cases bt (f x) y <;> simp
  have hw : w ≤ 24 := by
    have := h.1 (fun q => decide (q = a)) (by simp) (by simp; exact fun e => hab e.symm)
    rw [eK] at this
    unfold cutK at this
    have e : fb_sm (fun x => (if (fun q => decide (q = a)) x && !(fun q => decide (q = a)) x then 24 else 0) + fb_sm (fun y => if (fun q => decide (q = a)) x && (!(fun q => decide (q = a)) y && bt (f x) y) then 1 else 0) n) n = fb_sm (fun x => if x = a then fb_sm (fun y => if (!decide (y = a) && bt (f a) y) then 1 else 0) n else 0) n := by
      refine fb_sm_cong fun x _ => ?_
      by_cases q : x = a
      · subst q; simp
      · simp only [q, decide_false, Bool.false_and, if_false]
        show 0 + fb_sm (fun _ => if false = true then 1 else 0) n = 0
        rw [fb_sm_cong (g := fun _ => 0) (fun _ _ => by simp), fb_sm_const]; simp
    rw [e, sm_hit ha] at this
    have b2 := fb_sm_bound (f := fun y => if (!decide (y = a) && bt (f a) y) then 1 else 0) (c := 1) (n := n) (fun k _ => by show (if _ then 1 else 0) ≤ 1; split <;> omega)
    omega
  constructor
  · intro i o ho hi
    by_cases q : ∃ x, x < n ∧ i x = true ∧ o x = false
    · obtain ⟨x, hx, x1, x2⟩ := q
      have : 24 ≤ cutK n f 24 i o := by
        unfold cutK
        refine Nat.le_trans ?_ (fb_sm_part _ hx)
        simp [x1, x2]
        omega
      omega
    · have hx : ∀ x, x < n → o x = false → i x = false := fun x hx h1 => by
        cases h2 : i x with
        | false => rfl
        | true => exact absurd ⟨x, hx, h2, h1⟩ q
      refine Nat.le_trans (h.1 (fun x => o x && !decide (x = b)) (by simp [ho, hab]) (by simp)) ?_
      rw [eK]
      unfold cutK
      refine fb_sm_le fun x hxn => ?_
      have e : (if (fun x => o x && !decide (x = b)) x && !(fun x => o x && !decide (x = b)) x then 24 else 0) = 0 := by
        cases h1 : (o x && !decide (x = b)) <;> simp [h1]
      rw [e, Nat.zero_add]
      refine Nat.le_trans (fb_sm_le fun y hy => ?_) (Nat.le_add_left _ _)
      show (if ((o x && !decide (x = b)) && (!(o y && !decide (y = b)) && bt (f x) y)) = true then 1 else 0) ≤ (if (o x && (!i y && bt (f x) y)) = true then 1 else 0)
      split
      · rename_i hc
        simp only [Bool.and_eq_true, Bool.not_eq_true', Bool.and_eq_false_iff, Bool.not_eq_false', decide_eq_true_eq, decide_eq_false_iff_not] at hc
        have hiy : i y = false := by
          rcases hc.2.1 with h1 | h1
          · exact hx y hy h1
          · rw [h1]; exact hi
        rw [if_pos (by rw [hc.1.1, hiy, hc.2.2]; rfl)]
        exact Nat.le_refl _
      · omega
  · obtain ⟨S, s1, s2, s3⟩ := h.2
    exact ⟨S, S, s1, s2, s3.trans (eK S)⟩
theorem isMinK_le {n : Nat} {f : Nat → Int32} {cp a b w : Nat} (hab : a ≠ b) (ha : a < n) (hn : n ≤ 24) (h : isMinK n f cp a b w) : w ≤ 24 := by
  have h1 := h.1 (fun q => decide (q = a)) (fun q => decide (q = a)) (by simp) (by simp; exact fun e => hab e.symm)
  refine Nat.le_trans h1 ?_
  unfold cutK
  have e : fb_sm (fun x => (if (fun q => decide (q = a)) x && !(fun q => decide (q = a)) x then cp else 0) + fb_sm (fun y => if (fun q => decide (q = a)) x && (!(fun q => decide (q = a)) y && bt (f x) y) then 1 else 0) n) n = fb_sm (fun x => if x = a then fb_sm (fun y => if (!decide (y = a) && bt (f a) y) then 1 else 0) n else 0) n := by
    refine fb_sm_cong fun x _ => ?_
    by_cases q : x = a
    · subst q; simp
    · simp only [q, decide_false, Bool.false_and, if_false]
      show 0 + fb_sm (fun _ => if false = true then 1 else 0) n = 0
      rw [fb_sm_cong (g := fun _ => 0) (fun _ _ => by simp), fb_sm_const]; simp
  rw [e, sm_hit ha]
  have b2 := fb_sm_bound (f := fun y => if (!decide (y = a) && bt (f a) y) then 1 else 0) (c := 1) (n := n) (fun k _ => by show (if _ then 1 else 0) ≤ 1; split <;> omega)
  omega
noncomputable def mfl (n : Nat) (f : Nat → Int32) (cp a b : Nat) : Nat := @dite _ (∃ w, isMinK n f cp a b w) (Classical.propDecidable _) (fun h => Classical.choose h) (fun _ => 0)
theorem mfl_of {n : Nat} {f : Nat → Int32} {cp a b w : Nat} (h : isMinK n f cp a b w) : mfl n f cp a b = w := by
  unfold mfl
  rw [dif_pos ⟨w, h⟩]
  exact isMinK_one (Classical.choose_spec (⟨w, h⟩ : ∃ w, isMinK n f cp a b w)) h
theorem mfl_lt {n : Nat} {f : Nat → Int32} {cp a b : Nat} (hn : n ≤ 24) (hab : a ≠ b) (ha : a < n) : mfl n f cp a b < 2 ^ 31 := by
  unfold mfl
  split
  · rename_i h
    have := isMinK_le hab ha hn (Classical.choose_spec h)
    omega
  · decide
/-- the least of some, from z on; the first is passed over -/
def lsf (g : Nat → Nat) (z : Nat) : Nat → Nat
  | 0 => z
  | k + 1 => if k = 0 then z else min (lsf g z k) (g k)
theorem lsf_le (g : Nat → Nat) (z : Nat) : ∀ k, lsf g z k ≤ z
  | 0 => Nat.le_refl _
  | k + 1 => by
    have := lsf_le g z k
    unfold lsf
    split
    · exact Nat.le_refl _
    · omega
theorem lsf_one {g : Nat → Nat} {z z' : Nat} : ∀ {k : Nat}, 2 ≤ k → (∀ i, 0 < i → i < k → g i ≤ z ∧ g i ≤ z') → lsf g z k = lsf g z' k
  | 0, h, _ => by omega
  | 1, h, _ => by omega
  | k + 2, _, h => by
    have hg := h (k + 1) (by omega) (by omega)
    have u1 : lsf g z (k + 2) = min (lsf g z (k + 1)) (g (k + 1)) := by rw [lsf, if_neg (by omega)]
    have u2 : lsf g z' (k + 2) = min (lsf g z' (k + 1)) (g (k + 1)) := by rw [lsf, if_neg (by omega)]
    by_cases e : k = 0
    · subst e
      have v1 : lsf g z 1 = z := by simp [lsf]
      have v2 : lsf g z' 1 = z' := by simp [lsf]
      rw [u1, u2, v1, v2]
      omega
    · rw [u1, u2, lsf_one (k := k + 1) (by omega) (fun i h0 hi => h i h0 (by omega))]
theorem lsf_s {g : Nat → Nat} {z k : Nat} (h : 1 ≤ k) : lsf g z (k + 1) = min (lsf g z k) (g k) := by rw [lsf, if_neg (by omega)]
/-- the least over all pairs that aren't joined -/
def tkr (g : Nat → Nat → Nat) (f : Nat → Int32) (a z : Nat) : Nat → Nat
  | 0 => z
  | b + 1 => if a < b ∧ bt (f a) b = false then min (tkr g f a z b) (g a b) else tkr g f a z b
def tka (g : Nat → Nat → Nat) (n : Nat) (f : Nat → Int32) : Nat → Nat
  | 0 => n - 1
  | a + 1 => tkr g f a (tka g n f a) n
theorem tkr_le (g : Nat → Nat → Nat) (f : Nat → Int32) (a z : Nat) : ∀ b, tkr g f a z b ≤ z
  | 0 => Nat.le_refl _
  | b + 1 => by
    have := tkr_le g f a z b
    unfold tkr
    split <;> omega
theorem tkr_y {g : Nat → Nat → Nat} {f : Nat → Int32} {a z b : Nat} (h : a < b) (h2 : bt (f a) b = false) : tkr g f a z (b + 1) = min (tkr g f a z b) (g a b) := by rw [tkr, if_pos ⟨h, h2⟩]
theorem tkr_n {g : Nat → Nat → Nat} {f : Nat → Int32} {a z b : Nat} (h2 : bt (f a) b = true) : tkr g f a z (b + 1) = tkr g f a z b := by rw [tkr, if_neg (by rw [h2]; simp)]
theorem tka_le (g : Nat → Nat → Nat) (n : Nat) (f : Nat → Int32) : ∀ a, tka g n f a ≤ n - 1
  | 0 => Nat.le_refl _
  | a + 1 => by
    have := tka_le g n f a
    have := tkr_le g f a (tka g n f a) n
    unfold tka; omega
theorem tkr_lo (g : Nat → Nat → Nat) (f : Nat → Int32) (a z : Nat) : ∀ b, b ≤ a + 1 → tkr g f a z b = z
  | 0, _ => rfl
  | b + 1, h => by rw [tkr, if_neg (by omega), tkr_lo g f a z b (by omega)]
end C47M
