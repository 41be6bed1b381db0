/-! matchings: none is greater than one that can't be extended -/
section C9yf
theorem kuhn {g : Nat → Nat → Bool} (hgn : ∀ z t, g z t = true → t < 24) : ∀ (m s : Nat) (tr : Int32) (S : Nat → Prop) (O : Nat → Option Nat), fb_ct (fun t => !bt tr t) 24 < m → mS g S O → (∀ t, O t = some s → bt tr t = true) → (∃ tr', gtF g s tr tr' O) ∨ (∃ O', gtP g 24 s tr S O O') := by
  intro m
  induction m with
  | zero => intro s tr S O hm; omega
  | succ m ih =>
    intro s tr S O hm hM hown
    have lp : ∀ (u t : Nat) (tr1 : Int32), 24 - t < u → t ≤ 24 → (∀ u, bt tr u = true → bt tr1 u = true) → (∀ u, u < t → g s u = true → bt tr1 u = true) → (∀ u, bt tr1 u = true → bt tr u = false → ∃ z, O u = some z ∧ ∀ v, v < 24 → g z v = true → bt tr1 v = true) → (∃ tr', gtF g s tr tr' O) ∨ (∃ O', gtP g 24 s tr S O O') := by
      intro u
      induction u with
      | zero => intro t tr1 hu; omega
      | succ u ih2 =>
        intro t tr1 hu ht hsub hall_ hcl
        by_cases htn : t = 24
        · exact Or.inl ⟨tr1, hsub, fun v hv hg => hall_ v (by omega) hg, hcl⟩
        by_cases hg : g s t = true
        · by_cases hT : bt tr1 t = true
          · exact ih2 (t + 1) tr1 (by omega) (by omega) hsub (fun v hv hgv => by
              by_cases e : v = t
              · rw [e]; exact hT
              · exact hall_ v (by omega) hgv) hcl
          have hT : bt tr1 t = false := ff_of hT
          have h2 : ∀ u, bt (tr1 ||| b1 t) u = true ↔ (bt tr1 u = true ∨ u = t) := fun u => by
            rw [bt_or1 tr1 (by omega) u, Bool.or_eq_true, decide_eq_true_eq]
          rcases ho : O t with _ | z
          · exact Or.inr ⟨_, gt_here hM hgn hsub hown hg hT ho⟩
          have hle := ct_less (show t < 24 by omega) hT h2
          have hle2 : fb_ct (fun u => !bt tr1 u) 24 ≤ fb_ct (fun u => !bt tr u) 24 := fb_ct_sub fun k _ hk => by
            cases hb : bt tr k with
            | false => rfl
            | true => rw [hsub k hb] at hk; cases hk
          rcases ih z (tr1 ||| b1 t) S O (by omega) hM (fun v hv => (h2 v).mpr (Or.inr (hM.2.1 v t z hv ho))) with ⟨tr3, k1, k2, k3⟩ | ⟨O1, k2⟩
          · exact ih2 (t + 1) tr3 (by omega) (by omega) (fun v hv => k1 v ((h2 v).mpr (Or.inl (hsub v hv)))) (fun v hv hgv => by
              by_cases e : v = t
              · exact k1 v ((h2 v).mpr (Or.inr e))
              · exact k1 v ((h2 v).mpr (Or.inl (hall_ v (by omega) hgv)))) (fun v h1 h3 => by
              cases hb : bt (tr1 ||| b1 t) v with
              | false => exact k3 v h1 hb
              | true =>
                rcases (h2 v).mp hb with q | q
                · obtain ⟨y, y1, y2⟩ := hcl v q h3
                  exact ⟨y, y1, fun u hu hgu => k1 u ((h2 u).mpr (Or.inl (y2 u hu hgu)))⟩
                · rw [q]
                  exact ⟨z, ho, k2⟩)
          · exact Or.inr ⟨_, gt_deep hM hgn hsub hown hg hT ho h2 k2⟩
        · exact ih2 (t + 1) tr1 (by omega) (by omega) hsub (fun v hv hgv => by
            by_cases e : v = t
            · rw [e] at hgv; exact absurd hgv hg
            · exact hall_ v (by omega) hgv) hcl
    exact lp 25 0 tr (by omega) (by omega) (fun _ h => h) (fun u hu => absurd hu (by omega)) (fun u h1 h2 => by rw [h1] at h2; cases h2)
noncomputable def ctP (S : Nat → Prop) : Nat := fb_ct (fun z => @decide (S z) (Classical.propDecidable _)) 24
theorem dcp {p : Prop} : (@decide p (Classical.propDecidable _) = true) ↔ p := @decide_eq_true_iff p (Classical.propDecidable _)
/-- none is greater than one that can't be extended -/
theorem mx {g : Nat → Nat → Bool} (hgn : ∀ z t, g z t = true → t < 24) {V Q Q' : Nat → Prop} {O : Nat → Option Nat} (h : mS g Q O) (hmax : ∀ q, V q → ¬ Q q → q < 24 → ¬ mA g (fun z => Q z ∨ z = q)) (hQ' : mA g Q') (hV : ∀ z, Q' z → V z) : ctP Q' ≤ ctP Q := by
  obtain ⟨O', h'⟩ := hQ'
  have hR : ∀ q, V q → ¬ Q q → q < 24 → ∃ tr', gtF g q (nI 0) tr' O := fun q v1 v2 v3 => by
    rcases kuhn hgn 25 q (nI 0) Q O (by have := fb_ct_le (fun t => !bt (nI 0) t) 24; omega) h (fun t e => absurd (h.1 t q e).2.2 v2) with z | ⟨O1, z⟩
    · exact z
    · exact absurd ⟨O1, gt_top (Nat.le_refl 24) v3 (fun z q => (h.2.2 z q).1) z⟩ (hmax q v1 v2 v3)
  have hRd : ∃ R : Nat → Prop, (∀ q t, V q → ¬ Q q → q < 24 → t < 24 → g q t = true → R t) ∧ ∀ t, R t → ∃ z, O t = some z ∧ ∀ u, u < 24 → g z u = true → R u := by
    refine ⟨fun t => ∃ q tr', V q ∧ ¬ Q q ∧ q < 24 ∧ gtF g q (nI 0) tr' O ∧ bt tr' t = true, fun q t v1 v2 v3 v4 v5 => ?_, fun t ht => ?_⟩
    · obtain ⟨tr', w⟩ := hR q v1 v2 v3
      exact ⟨q, tr', v1, v2, v3, w, w.2.1 t v4 v5⟩
    · obtain ⟨q, tr', v1, v2, v3, w, w2⟩ := ht
      obtain ⟨z, z1, z2⟩ := w.2.2 t w2 (b_0 t)
      exact ⟨z, z1, fun u hu hg => ⟨q, tr', v1, v2, v3, w, z2 u hu hg⟩⟩
  obtain ⟨R, hRa, hRb⟩ := hRd
  have hpsi : ∀ z, Q' z → ∃ y, Q y ∧ y < 24 ∧ ∃ t, O' t = some z ∧ ((R t ∧ O t = some y) ∨ (¬ R t ∧ y = z)) := fun z hz => by
    obtain ⟨hz24, t, ht⟩ := h'.2.2 z hz
    obtain ⟨l1, l2, -⟩ := h'.1 t z ht
    by_cases hr : R t
    · obtain ⟨y, hy, -⟩ := hRb t hr
      have hQy := (h.1 t y hy).2.2
      exact ⟨y, hQy, (h.2.2 y hQy).1, t, ht, Or.inl ⟨hr, hy⟩⟩
    · have hQz : Q z := Classical.byContradiction fun q => hr (hRa z t (hV z hz) q hz24 l1 l2)
      exact ⟨z, hQz, hz24, t, ht, Or.inr ⟨hr, rfl⟩⟩
  have hinj : ∀ z1 z2 y, (∃ t, O' t = some z1 ∧ ((R t ∧ O t = some y) ∨ (¬ R t ∧ y = z1))) → (∃ t, O' t = some z2 ∧ ((R t ∧ O t = some y) ∨ (¬ R t ∧ y = z2))) → z1 = z2 := by
    rintro z1 z2 y ⟨t1, a1, b1_⟩ ⟨t2, a2, b2_⟩
    rcases b1_ with ⟨r1, o1⟩ | ⟨r1, o1⟩
    · rcases b2_ with ⟨r2, o2⟩ | ⟨r2, o2⟩
      · have := h.2.1 t1 t2 y o1 o2
        subst this
        rw [a1] at a2; cases a2; rfl
      · subst o2
        obtain ⟨z, z1', z2'⟩ := hRb t1 r1
        rw [o1] at z1'; cases z1'
        obtain ⟨l1, l2, -⟩ := h'.1 t2 y a2
        exact absurd (z2' t2 l1 l2) r2
    · rcases b2_ with ⟨r2, o2⟩ | ⟨r2, o2⟩
      · subst o1
        obtain ⟨z, z1', z2'⟩ := hRb t2 r2
        rw [o2] at z1'; cases z1'
        obtain ⟨l1, l2, -⟩ := h'.1 t1 y a1
        exact absurd (z2' t1 l1 l2) r1
      · rw [← o1, o2]
  have key : ∀ y, ∃ z, ∀ z', (∃ t, O' t = some z' ∧ ((R t ∧ O t = some y) ∨ (¬ R t ∧ y = z'))) → z = z' := fun y => by
    by_cases q : ∃ z', (∃ t, O' t = some z' ∧ ((R t ∧ O t = some y) ∨ (¬ R t ∧ y = z')))
    · obtain ⟨z, hz⟩ := q
      exact ⟨z, fun z' hz' => hinj z z' y hz hz'⟩
    · exact ⟨0, fun z' hz' => absurd ⟨z', hz'⟩ q⟩
  obtain ⟨φ, hφ⟩ := Classical.axiomOfChoice key
  refine fb_ct_img (g := φ) 24 _ fun i hi hp => ?_
  obtain ⟨y, y1, y2, y3⟩ := hpsi i (dcp.mp hp)
  exact ⟨y, y2, dcp.mpr y1, hφ y i y3⟩
theorem gS_mono {g : Nat → Nat → Bool} {k z : Nat} (h : gS g k z) : ∀ m, gS g (k + m) z
  | 0 => h
  | m + 1 => Or.inl (gS_mono h m)
theorem mA_sub {g : Nat → Nat → Bool} {S T : Nat → Prop} (h : mA g T) (hs : ∀ z, S z → T z) : mA g S := by
  obtain ⟨O, h⟩ := h
  have key : ∀ t, ∃ o : Option Nat, (∀ z, o = some z ↔ (O t = some z ∧ S z)) := fun t => by
    by_cases q : ∃ z, O t = some z ∧ S z
    · obtain ⟨z, z1, z2⟩ := q
      refine ⟨some z, fun y => ⟨fun e => by cases e; exact ⟨z1, z2⟩, fun e => by rw [z1] at e; exact e.1⟩⟩
    · exact ⟨none, fun y => ⟨fun e => (by cases e), fun e => absurd ⟨y, e⟩ q⟩⟩
  obtain ⟨P, hP⟩ := Classical.axiomOfChoice key
  refine ⟨P, fun t z e => ?_, fun t u z e1 e2 => ?_, fun z hz => ?_⟩
  · obtain ⟨a, b⟩ := (hP t z).mp e
    exact ⟨(h.1 t z a).1, (h.1 t z a).2.1, b⟩
  · exact h.2.1 t u z ((hP t z).mp e1).1 ((hP u z).mp e2).1
  · obtain ⟨a, t, b⟩ := h.2.2 z (hs z hz)
    exact ⟨a, t, (hP t z).mpr ⟨b, hz⟩⟩
theorem gS_mA {g : Nat → Nat → Bool} : ∀ k, mA g (gS g k)
  | 0 => ⟨_, mS_0 g⟩
  | k + 1 => by
    by_cases q : mA g (fun x => gS g k x ∨ x = k)
    · obtain ⟨O, h⟩ := q
      exact ⟨O, (gN_yes h).2⟩
    · obtain ⟨O, h⟩ := gS_mA (g := g) k
      exact ⟨O, (gN_no h q).2⟩
theorem gN_ct {g : Nat → Nat → Bool} : ∀ k, k ≤ 24 → gN g k = fb_ct (fun z => @decide (gS g k z) (Classical.propDecidable _)) k
  | 0, _ => rfl
  | k + 1, hk => by
    have ih := gN_ct (g := g) k (by omega)
    rw [gN, fb_ct_succ, ih]
    congr 1
    · refine fb_ct_cong fun z hz => ?_
      have e : gS g (k + 1) z ↔ gS g k z := ⟨fun q => q.elim id (fun e => absurd e.1 (by omega)), Or.inl⟩
      cases hb : @decide (gS g k z) (Classical.propDecidable _) with
      | true => exact (dcp.mpr (e.mpr (dcp.mp hb))).symm
      | false =>
        cases hc : @decide (gS g (k + 1) z) (Classical.propDecidable _) with
        | false => rfl
        | true => rw [dcp.mpr (e.mp (dcp.mp hc))] at hb; cases hb
    · by_cases q : mA g (fun x => gS g k x ∨ x = k)
      · rw [if_pos q, if_pos (dcp.mpr (show gS g (k + 1) k from Or.inr ⟨rfl, q⟩))]
      · rw [if_neg q, if_neg (fun z => (dcp.mp z).elim (fun e => by have := gS_lt e; omega) (fun e => q e.2))]
theorem ctP_k {S : Nat → Prop} {k : Nat} (hk : k ≤ 24) (h : ∀ z, S z → z < k) : ctP S = fb_ct (fun z => @decide (S z) (Classical.propDecidable _)) k := by
  unfold ctP
  have h0 : fb_ct (fun i => @decide (S (k + i)) (Classical.propDecidable _)) (24 - k) = 0 := fb_ct_zero.mpr fun i _ => by
    cases hb : @decide (S (k + i)) (Classical.propDecidable _) with
    | false => rfl
    | true => have := h _ (dcp.mp hb); omega
  have h1 := fb_ct_split (fun z => @decide (S z) (Classical.propDecidable _)) k (24 - k)
  rw [show k + (24 - k) = 24 by omega] at h1
  omega
theorem gN_ctP {g : Nat → Nat → Bool} {k : Nat} (hk : k ≤ 24) : gN g k = ctP (gS g k) := by
  rw [gN_ct k hk, ctP_k hk (fun z q => gS_lt q)]
/-- the greedy choice is a greatest one -/
theorem gN_max {g : Nat → Nat → Bool} (hgn : ∀ z t, g z t = true → t < 24) {k : Nat} (hk : k ≤ 24) {Q : Nat → Prop} (hQ : mA g Q) (hV : ∀ z, Q z → z < k) : ctP Q ≤ gN g k := by
  obtain ⟨O, h⟩ := gS_mA (g := g) k
  rw [gN_ctP hk]
  refine mx hgn (V := fun z => z < k) h (fun q hq hnq _ hA => hnq ?_) hQ hV
  have h1 : mA g (fun x => gS g q x ∨ x = q) := mA_sub hA (fun z hz => hz.elim (fun e => Or.inl (by have := gS_mono e (k - q); rw [show q + (k - q) = k by omega] at this; exact this)) Or.inr)
  have h2 : gS g (q + 1) q := Or.inr ⟨rfl, h1⟩
  have := gS_mono h2 (k - (q + 1))
  rw [show q + 1 + (k - (q + 1)) = k by omega] at this
  exact this
end C9yf
