/-! how far by any step: rows and queues -/
section C90
def Rw (E : Nat → Nat → Prop) (s : Nat) : Nat → Nat → Prop
  | 0, t => t = s
  | k + 1, t => ∃ p, Rw E s k p ∧ E p t
def Rd (E : Nat → Nat → Prop) (s k t : Nat) : Prop := Rw E s k t ∧ ∀ j, j < k → ¬ Rw E s j t
theorem Rd_uniq {E : Nat → Nat → Prop} {s k j t : Nat} (h : Rd E s k t) (h' : Rd E s j t) : k = j := by
  by_cases q : k < j
  · exact absurd h.1 (h'.2 k q)
  · by_cases q2 : j < k
    · exact absurd h'.1 (h.2 j q2)
    · omega
noncomputable def Rv (E : Nat → Nat → Prop) (s t : Nat) : Option Nat := @dite _ (∃ k, Rd E s k t) (Classical.propDecidable _) (fun h => some (Classical.choose h)) (fun _ => none)
theorem Rv_some {E : Nat → Nat → Prop} {s k t : Nat} (h : Rd E s k t) : Rv E s t = some k := by
  have hh : ∃ k, Rd E s k t := ⟨k, h⟩
  unfold Rv
  rw [dif_pos hh, Rd_uniq (Classical.choose_spec hh) h]
theorem Rv_none {E : Nat → Nat → Prop} {s t : Nat} (h : ∀ k, ¬ Rw E s k t) : Rv E s t = none := by
  unfold Rv
  rw [dif_neg (fun ⟨k, hk⟩ => h k hk.1)]
abbrev bLv (E : Nat → Nat → Prop) (s c : Nat) (D : Nat → Option Nat) : Prop := (D s = some 0) ∧ (∀ t k, D t = some k → Rd E s k t) ∧ (∀ p k t, D p = some k → k < c → E p t → ∃ j, D t = some j) ∧ (∀ t k, D t = some k → k ≤ c + 1)
theorem bLv.st {E : Nat → Nat → Prop} {s c : Nat} {D : Nat → Option Nat} (h : bLv E s c D) : D s = some 0 := h.1
theorem bLv.sd {E : Nat → Nat → Prop} {s c : Nat} {D : Nat → Option Nat} (h : bLv E s c D) : ∀ t k, D t = some k → Rd E s k t := h.2.1
theorem bLv.cl {E : Nat → Nat → Prop} {s c : Nat} {D : Nat → Option Nat} (h : bLv E s c D) : ∀ p k t, D p = some k → k < c → E p t → ∃ j, D t = some j := h.2.2.1
theorem bLv.up {E : Nat → Nat → Prop} {s c : Nat} {D : Nat → Option Nat} (h : bLv E s c D) : ∀ t k, D t = some k → k ≤ c + 1 := h.2.2.2
theorem bLv_0 (E : Nat → Nat → Prop) (s : Nat) : bLv E s 0 (fun t => if t = s then some 0 else none) := by
  refine ⟨if_pos rfl, fun t k h => ?_, fun p k t _ h => (by omega), fun t k h => ?_⟩
  · replace h : (if t = s then some 0 else none : Option Nat) = some k := h
    by_cases q : t = s
    · subst q
      rw [if_pos rfl] at h; cases h
      exact ⟨rfl, fun j hj => (by omega)⟩
    · rw [if_neg q] at h; cases h
  · replace h : (if t = s then some 0 else none : Option Nat) = some k := h
    by_cases q : t = s
    · rw [if_pos q] at h; cases h; omega
    · rw [if_neg q] at h; cases h
theorem bLv.all {E : Nat → Nat → Prop} {s c : Nat} {D : Nat → Option Nat} (h : bLv E s c D) : ∀ j t, Rw E s j t → j ≤ c → ∃ k, D t = some k ∧ k ≤ j
  | 0, t, hr, _ => by
    have e : t = s := hr
    exact ⟨0, by rw [e]; exact h.st, Nat.le_refl _⟩
  | j + 1, t, ⟨p, hp, he⟩, hj => by
    obtain ⟨kp, k1, k2⟩ := h.all j p hp (by omega)
    obtain ⟨k, hk⟩ := h.cl p kp t k1 (by omega) he
    refine ⟨k, hk, Nat.le_of_not_lt fun q => ?_⟩
    exact (h.sd t k hk).2 (j + 1) q ⟨p, hp, he⟩
abbrev oput (D : Nat → Option Nat) (t v : Nat) : Nat → Option Nat := fun x => if x = t then some v else D x
theorem bLv.put {E : Nat → Nat → Prop} {s c p t : Nat} {D : Nat → Option Nat} (h : bLv E s c D) (hp : D p = some c) (he : E p t) (ht : D t = none) : bLv E s c (oput D t (c + 1)) := by
  have hst : ¬ s = t := fun q => by rw [← q, h.st] at ht; cases ht
  refine ⟨by show (if s = t then _ else _) = _; rw [if_neg hst]; exact h.st, fun x k hx => ?_, fun a k x ha hk hx => ?_, fun x k hx => ?_⟩
  · by_cases q : x = t
    · subst q
      have hx' : (if x = x then some (c + 1) else D x) = some k := hx
      rw [if_pos rfl] at hx'; cases hx'
      refine ⟨⟨p, (h.sd p c hp).1, he⟩, fun j hj hr => ?_⟩
      obtain ⟨k, k1, _⟩ := h.all j x hr (by omega)
      rw [ht] at k1; cases k1
    · have hx' : (if x = t then some (c + 1) else D x) = some k := hx
      rw [if_neg q] at hx'
      exact h.sd x k hx'
  · by_cases q : x = t
    · exact ⟨c + 1, if_pos q⟩
    · have ha' : (if a = t then some (c + 1) else D a) = some k := ha
      by_cases q2 : a = t
      · rw [if_pos q2] at ha'; cases ha'; omega
      · rw [if_neg q2] at ha'
        obtain ⟨j, hj⟩ := h.cl a k x ha' hk hx
        exact ⟨j, (if_neg q).trans hj⟩
  · by_cases q : x = t
    · have hx' : (if x = t then some (c + 1) else D x) = some k := hx
      rw [if_pos q] at hx'; cases hx'; omega
    · have hx' : (if x = t then some (c + 1) else D x) = some k := hx
      rw [if_neg q] at hx'
      exact h.up x k hx'
theorem bLv.lift {E : Nat → Nat → Prop} {s c : Nat} {D : Nat → Option Nat} (h : bLv E s c D) (ha : ∀ p t, D p = some c → E p t → ∃ j, D t = some j) : bLv E s (c + 1) D :=
  ⟨h.st, h.sd, fun p k t hp hk he => by
    by_cases q : k = c
    · subst q; exact ha p t hp he
    · exact h.cl p k t hp (by omega) he, fun t k hk => by have := h.up t k hk; omega⟩
theorem bLv.fin {E : Nat → Nat → Prop} {s c : Nat} {D : Nat → Option Nat} (h : bLv E s c D) (ha : ∀ p k t, D p = some k → E p t → ∃ j, D t = some j) (t : Nat) : D t = Rv E s t := by
  have hh : ∀ j x, Rw E s j x → ∃ k, D x = some k := by
    intro j
    induction j with
    | zero => intro x hx; have e : x = s := hx; exact ⟨0, by rw [e]; exact h.st⟩
    | succ j ih =>
      rintro x ⟨p, hp, he⟩
      obtain ⟨k, hk⟩ := ih p hp
      exact ha p k x hk he
  cases q : D t with
  | some k => rw [Rv_some (h.sd t k q)]
  | none =>
    rw [Rv_none (fun k hk => by
      obtain ⟨j, hj⟩ := hh k t hk
      rw [q] at hj; cases hj)]
theorem bLv.end_ {E : Nat → Nat → Prop} {s c : Nat} {D : Nat → Option Nat} (h : bLv E s c D) (hn : ∀ t, D t ≠ some c) (t : Nat) : D t = Rv E s t := by
  have no : ∀ t k, D t = some k → k < c := by
    intro t k hk
    refine Nat.lt_of_not_le fun q => ?_
    have hr := (h.sd t k hk)
    have key : ∀ j x, Rw E s (c + j) x → ∃ y, Rw E s c y := by
      intro j
      induction j with
      | zero => exact fun x hx => ⟨x, hx⟩
      | succ j ih => rintro x ⟨p, hp, _⟩; exact ih p hp
    have h2 := h.up t k hk
    rcases Nat.lt_or_ge c k with q2 | q2
    · have e : k = c + 1 := by omega
      subst e
      obtain ⟨p, hp, he⟩ := hr.1
      obtain ⟨kp, k1, k2⟩ := h.all c p hp (Nat.le_refl _)
      have k3 : kp < c := by
        rcases Nat.lt_or_ge kp c with q3 | q3
        · exact q3
        · exact absurd (by rw [k1, show kp = c by omega]) (hn p)
      obtain ⟨j, hj⟩ := h.cl p kp t k1 k3 he
      exact hr.2 (kp + 1) (by omega) ⟨p, (h.sd p kp k1).1, he⟩
    · exact hn t (by rw [hk, show k = c by omega])
  exact h.fin (fun p k t hp he => h.cl p k t hp (no p k hp) he) t
/-- a queue -/
abbrev bQu (E : Nat → Nat → Prop) (s c : Nat) (D : Nat → Option Nat) (q l : Nat → Nat) (i many : Nat) : Prop := (bLv E s c D) ∧ (∀ x, x < many → D (q x) = some (l x)) ∧ (∀ x y, x ≤ y → y < many → l x ≤ l y) ∧ (∀ t k, D t = some k → ∃ x, x < many ∧ q x = t) ∧ (∀ x t, x < i → E (q x) t → ∃ j, D t = some j) ∧ (i < many → l i = c) ∧ (i ≤ many) ∧ (∀ x y, x < y → y < many → q x ≠ q y) ∧ (∀ x, x < many → l x ≤ x)
theorem bQu.bs {E : Nat → Nat → Prop} {s c : Nat} {D : Nat → Option Nat} {q l : Nat → Nat} {i many : Nat} (h : bQu E s c D q l i many) : bLv E s c D := h.1
theorem bQu.lv {E : Nat → Nat → Prop} {s c : Nat} {D : Nat → Option Nat} {q l : Nat → Nat} {i many : Nat} (h : bQu E s c D q l i many) : ∀ x, x < many → D (q x) = some (l x) := h.2.1
theorem bQu.mo {E : Nat → Nat → Prop} {s c : Nat} {D : Nat → Option Nat} {q l : Nat → Nat} {i many : Nat} (h : bQu E s c D q l i many) : ∀ x y, x ≤ y → y < many → l x ≤ l y := h.2.2.1
theorem bQu.ex {E : Nat → Nat → Prop} {s c : Nat} {D : Nat → Option Nat} {q l : Nat → Nat} {i many : Nat} (h : bQu E s c D q l i many) : ∀ t k, D t = some k → ∃ x, x < many ∧ q x = t := h.2.2.2.1
theorem bQu.pr {E : Nat → Nat → Prop} {s c : Nat} {D : Nat → Option Nat} {q l : Nat → Nat} {i many : Nat} (h : bQu E s c D q l i many) : ∀ x t, x < i → E (q x) t → ∃ j, D t = some j := h.2.2.2.2.1
theorem bQu.hi {E : Nat → Nat → Prop} {s c : Nat} {D : Nat → Option Nat} {q l : Nat → Nat} {i many : Nat} (h : bQu E s c D q l i many) : i < many → l i = c := h.2.2.2.2.2.1
theorem bQu.im {E : Nat → Nat → Prop} {s c : Nat} {D : Nat → Option Nat} {q l : Nat → Nat} {i many : Nat} (h : bQu E s c D q l i many) : i ≤ many := h.2.2.2.2.2.2.1
theorem bQu.inj {E : Nat → Nat → Prop} {s c : Nat} {D : Nat → Option Nat} {q l : Nat → Nat} {i many : Nat} (h : bQu E s c D q l i many) : ∀ x y, x < y → y < many → q x ≠ q y := h.2.2.2.2.2.2.2.1
theorem bQu.lx {E : Nat → Nat → Prop} {s c : Nat} {D : Nat → Option Nat} {q l : Nat → Nat} {i many : Nat} (h : bQu E s c D q l i many) : ∀ x, x < many → l x ≤ x := h.2.2.2.2.2.2.2.2
theorem bQu_0 (E : Nat → Nat → Prop) (s : Nat) (q : Nat → Nat) (hq : q 0 = s) : bQu E s 0 (fun t => if t = s then some 0 else none) q (fun _ => 0) 0 1 := by
  refine ⟨bLv_0 E s, fun x hx => ?_, fun _ _ _ _ => Nat.le_refl _, fun t k h => ?_, fun x t h => (by omega), fun _ => rfl, by omega, fun x y h1 h2 => (by omega), fun _ _ => Nat.zero_le _⟩
  · show (if q x = s then some 0 else none) = some 0
    rw [show x = 0 by omega, hq, if_pos rfl]
  · replace h : (if t = s then some 0 else none : Option Nat) = some k := h
    by_cases e : t = s
    · exact ⟨0, by omega, by rw [e, hq]⟩
    · rw [if_neg e] at h; cases h
theorem bQu.put {E : Nat → Nat → Prop} {s c i many t : Nat} {D : Nat → Option Nat} {q l : Nat → Nat} (h : bQu E s c D q l i many) (hi : i < many) (he : E (q i) t) (ht : D t = none) : bQu E s c (oput D t (c + 1)) (fun x => if x = many then t else q x) (fun x => if x = many then c + 1 else l x) i (many + 1) := by
  have hne : ∀ x, x < many → ¬ q x = t := fun x hx z => by
    have := h.lv x hx
    rw [z, ht] at this; cases this
  have hli := h.hi hi
  have hlv := h.lv i hi
  rw [hli] at hlv
  refine ⟨h.bs.put hlv he ht, fun x hx => ?_, fun x y hxy hy => ?_, fun u k hu => ?_, fun x u hx hu => ?_, fun _ => ?_, by have := h.im; omega, fun x y hxy hy => ?_, fun x hx => ?_⟩
  · show (if (if x = many then t else q x) = t then some (c + 1) else D (if x = many then t else q x)) = some (if x = many then c + 1 else l x)
    by_cases e : x = many
    · rw [if_pos e, if_pos rfl, if_pos e]
    · rw [if_neg e, if_neg (hne x (by omega)), if_neg e]; exact h.lv x (by omega)
  · show (if x = many then c + 1 else l x) ≤ (if y = many then c + 1 else l y)
    by_cases e : y = many
    · rw [if_pos e]
      split
      · exact Nat.le_refl _
      · exact h.bs.up _ _ (h.lv x (by omega))
    · rw [if_neg e, if_neg (by omega)]; exact h.mo x y hxy (by omega)
  · by_cases e : u = t
    · exact ⟨many, by omega, (if_pos rfl).trans e.symm⟩
    · have hu' : (if u = t then some (c + 1) else D u) = some k := hu
      rw [if_neg e] at hu'
      obtain ⟨x, hx, hx2⟩ := h.ex u k hu'
      exact ⟨x, by omega, (if_neg (by omega)).trans hx2⟩
  · have hu' : E (if x = many then t else q x) u := hu
    rw [if_neg (by omega)] at hu'
    obtain ⟨j, hj⟩ := h.pr x u hx hu'
    by_cases e : u = t
    · exact ⟨c + 1, if_pos e⟩
    · exact ⟨j, (if_neg e).trans hj⟩
  · show (if i = many then c + 1 else l i) = c
    rw [if_neg (by omega)]; exact hli
  · show (if x = many then t else q x) ≠ (if y = many then t else q y)
    rw [if_neg (by omega)]
    by_cases e : y = many
    · rw [if_pos e]; exact hne x (by omega)
    · rw [if_neg e]; exact h.inj x y hxy (by omega)
  · show (if x = many then c + 1 else l x) ≤ x
    by_cases e : x = many
    · rw [if_pos e]
      have := h.lx i hi
      omega
    · rw [if_neg e]; exact h.lx x (by omega)
theorem bQu.next {E : Nat → Nat → Prop} {s c i many : Nat} {D : Nat → Option Nat} {q l : Nat → Nat} (h : bQu E s c D q l i many) (hi : i < many) (ha : ∀ t, E (q i) t → ∃ j, D t = some j) : ∃ c', bQu E s c' D q l (i + 1) many := by
  have hpr : ∀ x t, x < i + 1 → E (q x) t → ∃ j, D t = some j := fun x t hx he => by
    by_cases e : x = i
    · subst e; exact ha t he
    · exact h.pr x t (by omega) he
  have hli := h.hi hi
  by_cases e : i + 1 < many
  · have h1 := h.mo i (i + 1) (by omega) e
    have h2 := h.bs.up _ _ (h.lv (i + 1) e)
    by_cases e2 : l (i + 1) = c
    · exact ⟨c, h.bs, h.lv, h.mo, h.ex, hpr, fun _ => e2, by omega, h.inj, h.lx⟩
    · refine ⟨c + 1, h.bs.lift (fun p t hp he => ?_), h.lv, h.mo, h.ex, hpr, fun _ => by omega, by omega, h.inj, h.lx⟩
      obtain ⟨x, hx, rfl⟩ := h.ex p c hp
      have h3 := h.lv x hx
      rw [hp] at h3
      cases h3
      refine hpr x t ?_ he
      refine Nat.lt_of_not_le fun z => ?_
      have := h.mo (i + 1) x z hx
      omega
  · exact ⟨c, h.bs, h.lv, h.mo, h.ex, hpr, fun z => absurd z e, by omega, h.inj, h.lx⟩
theorem bQu.fin {E : Nat → Nat → Prop} {s c i many : Nat} {D : Nat → Option Nat} {q l : Nat → Nat} (h : bQu E s c D q l i many) (hi : ¬ i < many) (t : Nat) : D t = Rv E s t := h.bs.fin (fun p k t hp he => by
  obtain ⟨x, hx, rfl⟩ := h.ex p k hp
  exact h.pr x t (by omega) he) t
theorem bQu.bd {E : Nat → Nat → Prop} {s c i many t k : Nat} {D : Nat → Option Nat} {q l : Nat → Nat} (h : bQu E s c D q l i many) (ht : D t = some k) : k < many := by
  obtain ⟨x, hx, rfl⟩ := h.ex t k ht
  have h1 := h.lv x hx
  have h2 := h.lx x hx
  rw [ht] at h1; cases h1
  omega
theorem bQu.le {E : Nat → Nat → Prop} {s c i many V : Nat} {D : Nat → Option Nat} {q l : Nat → Nat} (h : bQu E s c D q l i many) (hV : ∀ x, x < many → q x < V) : many ≤ V := fb_holes V many q hV h.inj
theorem bQu.lt {E : Nat → Nat → Prop} {s c i many V t : Nat} {D : Nat → Option Nat} {q l : Nat → Nat} (h : bQu E s c D q l i many) (hV : ∀ x, x < many → q x < V) (ht : t < V) (hD : D t = none) : many < V := by
  have := fb_holes V (many + 1) (fun x => if x = many then t else q x) (fun x hx => by
    show (if x = many then t else q x) < V
    split
    · exact ht
    · exact hV x (by omega)) (fun x y hxy hy => by
    show (if x = many then t else q x) ≠ (if y = many then t else q y)
    rw [if_neg (by omega)]
    split
    · intro z
      have := h.lv x (by omega)
      rw [z, hD] at this; cases this
    · exact h.inj x y hxy (by omega))
  exact this
end C90
