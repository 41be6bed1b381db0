/-! distances are symmetric; the greatest one and their sum, told in two ways -/
section DSYM
def PP (f : Nat → Int32) (st : Int32) : Nat → Nat → Nat → Prop
  | 0, a, b => a = b ∧ bt st a = true
  | e + 1, a, b => ∃ c, PP f st e a c ∧ bt (f c) b = true ∧ bt st b = true
variable {n : Nat} {f : Nat → Int32} {st : Int32}
theorem PP.inl : ∀ {e a b : Nat}, PP f st e a b → bt st a = true
  | 0, _, _, h => h.2
  | _ + 1, _, _, ⟨_, h, _⟩ => h.inl
theorem PP.inr : ∀ {e a b : Nat}, PP f st e a b → bt st b = true
  | 0, _, _, h => h.1 ▸ h.2
  | _ + 1, _, _, ⟨_, _, h⟩ => h.2
theorem PP.front : ∀ {e a b c : Nat}, bt st a = true → bt (f a) c = true → PP f st e c b → PP f st (e + 1) a b
  | 0, a, b, c, ha, hc, h => by
    obtain ⟨rfl, h⟩ := h
    exact ⟨a, ⟨rfl, ha⟩, hc, h⟩
  | e + 1, a, b, c, ha, hc, ⟨x, h1, h2, h3⟩ => ⟨x, PP.front ha hc h1, h2, h3⟩
theorem PP.sym (hs : ∀ a b, bt st a = true → bt st b = true → bt (f a) b = bt (f b) a) : ∀ {e a b : Nat}, PP f st e a b → PP f st e b a
  | 0, a, b, h => ⟨h.1.symm, h.1 ▸ h.2⟩
  | e + 1, a, b, ⟨c, h1, h2, h3⟩ => PP.front h3 (by rw [hs b c h3 h1.inr]; exact h2) (PP.sym hs h1)
theorem bt32 {x : Int32} {i : Nat} (h : bt x i = true) : i < 32 := by
  rcases Nat.lt_or_ge i 32 with q | q
  · exact q
  · rw [b_big q] at h; cases h
theorem fr_PP {s : Nat} (hs : bt st s = true) (hst : ∀ i, bt st i = true → i < n) : ∀ (d k : Nat), bt (fr n f st s d) k = true ↔ PP f st d s k ∧ ∀ e, e < d → ¬ PP f st e s k := by
  have hs32 := bt32 hs
  have base : ∀ k, bt (fr n f st s 0) k = true ↔ PP f st 0 s k := fun k => by
    show bt (b1 s) k = true ↔ _
    rw [bt_b1 hs32]
    simp only [decide_eq_true_eq, PP]
    exact ⟨fun h => ⟨h.symm, hs⟩, fun h => h.1.symm⟩
  have main : ∀ (d : Nat), (∀ e, e ≤ d → ∀ k, bt (fr n f st s e) k = true ↔ PP f st e s k ∧ ∀ e', e' < e → ¬ PP f st e' s k) := by
    intro d
    induction d with
    | zero =>
      intro e he k
      obtain rfl : e = 0 := by omega
      rw [base k]
      exact ⟨fun h => ⟨h, fun e' h' => absurd h' (by omega)⟩, fun h => h.1⟩
    | succ d ih =>
      intro e he k
      by_cases q : e ≤ d
      · exact ih e q k
      · obtain rfl : e = d + 1 := by omega
        have ex : ∀ k e, e ≤ d → PP f st e s k → ∃ e', e' ≤ d ∧ bt (fr n f st s e') k = true := by
          intro k e
          induction e using Nat.strongRecOn with
          | _ e ihe =>
            intro he h
            by_cases q2 : ∃ e', e' < e ∧ PP f st e' s k
            · obtain ⟨e', h1, h2⟩ := q2
              exact ihe e' h1 (by omega) h2
            · exact ⟨e, he, (ih e he k).mpr ⟨h, fun e' h1 h2 => q2 ⟨e', h1, h2⟩⟩⟩
        rcases Nat.lt_or_ge k 32 with hk | hk
        · rw [bt_fr_succ hk]
          constructor
          · rintro ⟨⟨⟨c, hc, h1, h2⟩, h3⟩, h4⟩
            have hp := (ih d (Nat.le_refl _) c).mp h1
            refine ⟨⟨c, hp.1, h2, h3⟩, fun e' he' hpe => ?_⟩
            obtain ⟨e2, a1, a2⟩ := ex k e' (by omega) hpe
            have := (bt_sn (n := n) (f := f) (st := st) (s := s) hk).mpr ⟨e2, a1, a2⟩
            rw [h4] at this
            cases this
          · rintro ⟨⟨c, h1, h2, h3⟩, h4⟩
            refine ⟨⟨⟨c, hst c h1.inr, (ih d (Nat.le_refl _) c).mpr ⟨h1, fun e' he' hpe => h4 (e' + 1) (by omega) ⟨c, hpe, h2, h3⟩⟩, h2⟩, h3⟩, ?_⟩
            cases hq : bt (sn n f st s d) k with
            | false => rfl
            | true =>
              obtain ⟨e2, a1, a2⟩ := (bt_sn hk).mp hq
              exact absurd ((ih e2 a1 k).mp a2).1 (h4 e2 (by omega))
        · rw [b_big hk]
          constructor
          · intro h; cases h
          · rintro ⟨h, -⟩
            have := h.inr
            rw [b_big hk] at this
            cases this
  exact fun d k => main d d (Nat.le_refl _) k
theorem dst_PP {s k d : Nat} (hs : bt st s = true) (hst : ∀ i, bt st i = true → i < n) (hk : k < 32) : dst n f st s k = some d ↔ PP f st d s k ∧ ∀ e, e < d → ¬ PP f st e s k := by
  rw [dst_some hk (bt32 hs), fr_PP hs hst]
theorem dst_sym {a b : Nat} (ha : bt st a = true) (hb : bt st b = true) (hst : ∀ i, bt st i = true → i < n) (hs : ∀ a b, a < n → b < n → bt (f a) b = bt (f b) a) : dst n f st a b = dst n f st b a := by
  have hs' : ∀ a b, bt st a = true → bt st b = true → bt (f a) b = bt (f b) a := fun a b h1 h2 => hs a b (hst a h1) (hst b h2)
  have key : ∀ {a b d : Nat}, bt st a = true → bt st b = true → dst n f st a b = some d → dst n f st b a = some d := fun ha hb h => by
    rw [dst_PP ha hst (bt32 hb)] at h
    rw [dst_PP hb hst (bt32 ha)]
    exact ⟨h.1.sym hs', fun e he hp => h.2 e he (hp.sym hs')⟩
  cases h : dst n f st a b with
  | some d => exact (key ha hb h).symm
  | none =>
    cases h2 : dst n f st b a with
    | none => rfl
    | some d => rw [key hb ha h2] at h; cases h
theorem dst_self {a : Nat} (ha : bt st a = true) : dst n f st a a = some 0 := by
  rw [dst_some (bt32 ha) (bt32 ha)]
  show bt (b1 a) a = true
  rw [bt_b1 (bt32 ha)]; simp
theorem dst_in {a b d : Nat} (ha : bt st a = true) (hst : ∀ i, bt st i = true → i < n) (hb : b < 32) (h : dst n f st a b = some d) : bt st b = true := ((dst_PP ha hst hb).mp h).1.inr
/-- all that stand are joined -/
def conn (n : Nat) (f : Nat → Int32) (st : Int32) : Prop := ∀ a b, bt st a = true → bt st b = true → ∃ d, dst n f st a b = some d
theorem sn_st {a : Nat} (ha : bt st a = true) (hst : ∀ i, bt st i = true → i < n) : sn n f st a 32 = st ↔ ∀ b, bt st b = true → ∃ d, dst n f st a b = some d := by
  constructor
  · intro h b hb
    rw [← sn_all (bt32 hb) (bt32 ha), h]; exact hb
  · intro h
    refine b_ext fun i hi => ?_
    cases hq : bt st i with
    | true => exact (sn_all hi (bt32 ha)).mpr (h i hq)
    | false =>
      cases hq2 : bt (sn n f st a 32) i with
      | false => rfl
      | true =>
        obtain ⟨d, hd⟩ := (sn_all hi (bt32 ha)).mp hq2
        rw [dst_in ha hst hi hd] at hq
        cases hq
/-- v is the greatest distance -/
def gtst (n : Nat) (f : Nat → Int32) (st : Int32) (v : Nat) : Prop := (∀ a b d, bt st a = true → bt st b = true → dst n f st a b = some d → d ≤ v) ∧ (v = 0 ∨ ∃ a b, bt st a = true ∧ bt st b = true ∧ dst n f st a b = some v)
theorem gtst_one {v v' : Nat} (h : gtst n f st v) (h' : gtst n f st v') : v = v' := by
  have key : ∀ {v v'}, gtst n f st v → gtst n f st v' → v ≤ v' := fun h h' => by
    rcases h.2 with rfl | ⟨a, b, ha, hb, hd⟩
    · exact Nat.zero_le _
    · exact h'.1 a b _ ha hb hd
  exact Nat.le_antisymm (key h h') (key h' h)
end DSYM
