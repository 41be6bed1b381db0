/-! tell: two families of sets -/
section C9yg
theorem msk_of {M : Int32} {n : Nat} (hn : n ≤ 24) (h : ∀ k, bt M k = true → k < n) : ∃ x, x < 2 ^ n ∧ M = nI x := by
  have h1 : un M < 2 ^ n := Nat.lt_pow_two_of_testBit _ (fun i hi => by
    cases hb : bt M i with
    | false => exact hb
    | true => have := h i hb; omega)
  have h2 : 2 ^ n ≤ 2 ^ 24 := Nat.pow_le_pow_right (by decide) hn
  exact ⟨un M, h1, un_inj (by rw [un_k (by omega)])⟩
theorem msk_ex {n : Nat} (hn : n ≤ 24) {Q : Nat → Prop} (hQ : ∀ z, Q z → z < n) : ∃ x, x < 2 ^ n ∧ ∀ k, bt (nI x) k = true ↔ Q k := by
  have key : ∀ m, m ≤ n → ∃ M : Int32, ∀ k, bt M k = true ↔ (k < m ∧ Q k) := by
    intro m
    induction m with
    | zero => intro _; exact ⟨nI 0, fun k => ⟨fun z => (by rw [show bt (nI 0) k = false from b_0 k] at z; cases z), fun z => absurd z.1 (by omega)⟩⟩
    | succ m ih =>
      intro hm
      obtain ⟨M, hM⟩ := ih (by omega)
      by_cases q : Q m
      · refine ⟨M ||| b1 m, fun k => ?_⟩
        rw [bt_or1 _ (by omega), Bool.or_eq_true, decide_eq_true_eq, hM k]
        constructor
        · rintro (⟨a, b⟩ | e)
          · exact ⟨by omega, b⟩
          · rw [e]; exact ⟨by omega, q⟩
        · rintro ⟨a, b⟩
          by_cases e : k = m
          · exact Or.inr e
          · exact Or.inl ⟨by omega, b⟩
      · refine ⟨M, fun k => ?_⟩
        rw [hM k]
        constructor
        · rintro ⟨a, b⟩; exact ⟨by omega, b⟩
        · rintro ⟨a, b⟩
          by_cases e : k = m
          · rw [e] at b; exact absurd b q
          · exact ⟨by omega, b⟩
  obtain ⟨M, hM⟩ := key n (Nat.le_refl _)
  obtain ⟨x, h1, rfl⟩ := msk_of (M := M) hn (fun k hk => ((hM k).mp hk).1)
  exact ⟨x, h1, fun k => (hM k).trans ⟨fun z => z.2, fun z => ⟨hQ k z, z⟩⟩⟩
theorem ctP_msk {x : Int32} (h : ∀ k, bt x k = true → k < 24) : ctP (fun k => bt x k = true) = pc32 x := by
  rw [pc32_n (n := 24) (by omega) (fun b hb => ff_of fun z => by have := h b z; omega)]
  refine fb_ct_cong fun k _ => ?_
  show @decide (bt x k = true) (Classical.propDecidable _) = bt x k
  cases hb : @decide (bt x k = true) (Classical.propDecidable _) with
  | true => exact (dcp.mp hb).symm
  | false => exact (ff_of fun z => by rw [dcp.mpr z] at hb; cases hb).symm
theorem ctP_cg {S T : Nat → Prop} (h : ∀ z, S z ↔ T z) : ctP S = ctP T := by
  rw [show S = T from funext fun z => propext (h z)]
theorem ctP_one {S : Nat → Prop} {u : Nat} (hu : u < 24) (h : ¬ S u) : ctP (fun z => S z ∨ z = u) = ctP S + 1 := by
  have h1 := fb_ct_upd (fun z => @decide (S z) (Classical.propDecidable _)) true (i := u) (n := 24) hu
  rw [if_pos rfl, if_neg (fun z => h (dcp.mp z))] at h1
  unfold ctP
  rw [← Nat.add_zero (fb_ct (fun z => @decide (S z ∨ z = u) (Classical.propDecidable _)) 24)]
  rw [← h1]
  congr 1
  refine fb_ct_cong fun k _ => ?_
  by_cases e : k = u
  · rw [if_pos e]; exact dcp.mpr (Or.inr e)
  · rw [if_neg e]
    cases hb : @decide (S k) (Classical.propDecidable _) with
    | true => exact dcp.mpr (Or.inl (dcp.mp hb))
    | false =>
      cases hc : @decide (S k ∨ k = u) (Classical.propDecidable _) with
      | false => rfl
      | true => rw [dcp.mpr ((dcp.mp hc).elim id (fun q => absurd q e))] at hb; cases hb
def tg (f : Nat → Int32) (A : Int32) (k t : Nat) : Bool := bt (f k) t && bt A t
def tgr (f : Nat → Int32) (A : Int32) (k t : Nat) : Bool := !bt A k && tg f A k t
theorem tg_t {f : Nat → Int32} {A : Int32} {k t : Nat} : tg f A k t = true ↔ bt (f k) t = true ∧ bt A t = true := by unfold tg; rw [Bool.and_eq_true]
noncomputable def mostT (n : Nat) (f : Nat → Int32) (A : Int32) : Nat := gN (tgr f A) n
theorem mA_mono {g g' : Nat → Nat → Bool} {S : Nat → Prop} (h : mA g S) (e : ∀ z t, S z → g z t = true → g' z t = true) : mA g' S := by
  obtain ⟨O, h⟩ := h
  exact ⟨O, fun t z q => ⟨(h.1 t z q).1, e z t (h.1 t z q).2.2 (h.1 t z q).2.1, (h.1 t z q).2.2⟩, h.2⟩
theorem tgr_iff {f : Nat → Int32} {A : Int32} {S : Nat → Prop} (hS : ∀ z, S z → bt A z = false) : mA (tgr f A) S ↔ mA (tg f A) S := by
  constructor
  · intro h
    refine mA_mono h fun z t _ q => ?_
    unfold tgr at q
    rw [Bool.and_eq_true] at q
    exact q.2
  · intro h
    refine mA_mono h fun z t hz q => ?_
    unfold tgr
    rw [hS z hz, q]; rfl
theorem mostT_ge {n : Nat} {f : Nat → Int32} {A : Int32} (hn : n ≤ 24) (hA : ∀ k, bt A k = true → k < n) {Q : Nat → Prop} (hQ : mA (tg f A) Q) (h1 : ∀ z, Q z → z < n) (h2 : ∀ z, Q z → bt A z = false) : ctP Q ≤ mostT n f A := by
  refine gN_max (fun z t q => ?_) hn ((tgr_iff h2).mpr hQ) h1
  unfold tgr tg at q
  rw [Bool.and_eq_true, Bool.and_eq_true] at q
  have := hA t q.2.2
  omega
theorem mostT_ex {n : Nat} {f : Nat → Int32} {A : Int32} (hn : n ≤ 24) (hA : ∀ k, bt A k = true → k < n) {Q0 : Nat → Prop} (hQ : mA (tg f A) Q0) (h1 : ∀ z, Q0 z → z < n) (h2 : ∀ z, Q0 z → bt A z = false) : ∃ Q : Nat → Prop, (∀ z, Q0 z → Q z) ∧ (∀ z, Q z → z < n ∧ bt A z = false) ∧ mA (tg f A) Q ∧ ctP Q = mostT n f A := by
  have step : ∀ k, k ≤ n → ∃ Q : Nat → Prop, (∀ z, Q0 z → Q z) ∧ (∀ z, Q z → z < n ∧ bt A z = false) ∧ mA (tg f A) Q ∧ ∀ q, q < k → bt A q = false → ¬ Q q → ¬ mA (tg f A) (fun z => Q z ∨ z = q) := by
    intro k
    induction k with
    | zero => intro _; exact ⟨Q0, fun _ z => z, fun z q => ⟨h1 z q, h2 z q⟩, hQ, fun q hq => absurd hq (by omega)⟩
    | succ k ih =>
      intro hk
      obtain ⟨Q, q1, q2, q3, q4⟩ := ih (by omega)
      by_cases c : bt A k = false ∧ ¬ Q k ∧ mA (tg f A) (fun z => Q z ∨ z = k)
      · refine ⟨fun z => Q z ∨ z = k, fun z h => Or.inl (q1 z h), fun z h => h.elim (q2 z) (fun e => by rw [e]; exact ⟨by omega, c.1⟩), c.2.2, fun q hq hq1 hq2 hm => ?_⟩
        have : q ≠ k := fun e => hq2 (Or.inr e)
        exact q4 q (by omega) hq1 (fun z => hq2 (Or.inl z)) (mA_sub hm (fun z hz => hz.elim (fun e => Or.inl (Or.inl e)) Or.inr))
      · refine ⟨Q, q1, q2, q3, fun q hq hq1 hq2 hm => ?_⟩
        by_cases e : q = k
        · subst e; exact c ⟨hq1, hq2, hm⟩
        · exact q4 q (by omega) hq1 hq2 hm
  obtain ⟨Q, q1, q2, q3, q4⟩ := step n (Nat.le_refl _)
  refine ⟨Q, q1, q2, q3, Nat.le_antisymm (mostT_ge hn hA q3 (fun z h => (q2 z h).1) (fun z h => (q2 z h).2)) ?_⟩
  obtain ⟨O, hO⟩ := q3
  have hG : ∀ z, gS (tgr f A) n z → bt A z = false := fun z hz => by
    obtain ⟨O', hO'⟩ := gS_mA (g := tgr f A) n
    obtain ⟨-, t, ht⟩ := hO'.2.2 z hz
    have := (hO'.1 t z ht).2.1
    unfold tgr at this
    cases hb : bt A z with
    | false => rfl
    | true => rw [hb] at this; cases this
  unfold mostT
  rw [gN_ctP hn]
  exact mx (fun z t q => by have := hA t (tg_t.mp q).2; omega) (V := fun z => z < n ∧ bt A z = false) hO (fun q v1 v2 _ => q4 q v1.1 v1.2 v2) ((tgr_iff hG).mp (gS_mA n)) (fun z hz => ⟨gS_lt hz, hG z hz⟩)
/-- who knows can tell one after the other -/
def gP (n : Nat) (f : Nat → Int32) (A : Int32) : Nat → Nat → Int32 → Int32 → Prop
  | 0, _, T, C => C = T
  | m + 1, k, T, C => ((bt A k = true → ∀ u, u < n → bt (f k) u = true → bt T u = true) ∧ gP n f A m (k + 1) T C) ∨ (bt A k = true ∧ ∃ u, u < n ∧ bt (f k) u = true ∧ bt T u = false ∧ gP n f A m (k + 1) (T ||| b1 u) C)
theorem gp_mn {n : Nat} {f : Nat → Int32} {A : Int32} {Q : Nat → Prop} (hn : n ≤ 24) (hA : ∀ k, bt A k = true → k < n) (hsy : ∀ a b, a < n → b < n → bt (f a) b = bt (f b) a) (hQ : ∀ z, Q z → z < n ∧ bt A z = false) (hmax : ∀ u, u < n → bt A u = false → ¬ Q u → ¬ mA (tg f A) (fun z => Q z ∨ z = u)) {C : Int32} (hC : ∀ z, bt C z = true ↔ (bt A z = true ∨ Q z)) : ∀ (m k : Nat) (T : Int32) (O : Nat → Option Nat), k + m = n → mS (tg f A) Q O → (∀ t z, O t = some z → (t < k ↔ bt T z = true)) → (∀ z, bt T z = true → bt A z = true ∨ Q z) → (∀ z, bt A z = true → bt T z = true) → gP n f A m k T C := by
  intro m
  induction m with
  | zero =>
    intro k T O hk hM hO h1 h2
    refine b_ext fun i hi => ?_
    cases hb : bt T i with
    | true => exact (hC i).mpr (h1 i hb)
    | false =>
      refine ff_of fun z => ?_
      rcases (hC i).mp z with q | q
      · rw [h2 i q] at hb; cases hb
      · obtain ⟨-, t, ht⟩ := hM.2.2 i q
        have := hA t (tg_t.mp (hM.1 t i ht).2.1).2
        rw [(hO t i ht).mp (by omega)] at hb; cases hb
  | succ m ih =>
    intro k T O hk hM hO h1 h2
    have orT : ∀ {u v}, u < 24 → (bt (T ||| b1 u) v = true ↔ (bt T v = true ∨ v = u)) := fun {u v} hu => by rw [bt_or1 _ (by omega), Bool.or_eq_true, decide_eq_true_eq]
    cases hAk : bt A k with
    | false =>
      refine Or.inl ⟨fun z => absurd z (by rw [hAk]; decide), ih (k + 1) T O (by omega) hM (fun t z e => ?_) h1 h2⟩
      have : t ≠ k := fun q => by have h9 := (tg_t.mp (hM.1 t z e).2.1).2; rw [q, hAk] at h9; cases h9
      rw [← hO t z e]; omega
    | true =>
      have right : ∀ (u : Nat) (O' : Nat → Option Nat), u < n → Q u → bt (f k) u = true → bt T u = false → mS (tg f A) Q O' → (∀ t z, O' t = some z → (t = k ∧ z = u) ∨ (t ≠ k ∧ z ≠ u ∧ O t = some z)) → gP n f A m (k + 1) (T ||| b1 u) C := by
        intro u O' hu hQu hf hT hM' hO'
        refine ih (k + 1) (T ||| b1 u) O' (by omega) hM' (fun t z e => ?_) (fun z hz => ?_) (fun z hz => (orT (by omega)).mpr (Or.inl (h2 z hz)))
        · rw [orT (by omega)]
          rcases hO' t z e with ⟨a, b⟩ | ⟨a, b, c⟩
          · exact ⟨fun _ => Or.inr b, fun _ => by omega⟩
          · rw [← hO t z c]
            exact ⟨fun _ => Or.inl (by omega), fun q => q.elim (fun _ => by omega) (fun q => absurd q b)⟩
        · rcases (orT (by omega)).mp hz with q | q
          · exact h1 z q
          · rw [q]; exact Or.inr hQu
      rcases hOk : O k with _ | z
      · by_cases hall_ : ∀ u, u < n → bt (f k) u = true → bt T u = true
        · refine Or.inl ⟨fun _ => hall_, ih (k + 1) T O (by omega) hM (fun t z e => ?_) h1 h2⟩
          have : t ≠ k := fun q => by rw [q, hOk] at e; cases e
          rw [← hO t z e]; omega
        · have hex : ∃ u, u < n ∧ bt (f k) u = true ∧ bt T u = false := Classical.byContradiction fun q => hall_ fun u hu hf => by
            cases hb : bt T u with
            | true => rfl
            | false => exact absurd ⟨u, hu, hf, hb⟩ q
          obtain ⟨u, hu, hf, hT⟩ := hex
          have hgu : tg f A u k = true := tg_t.mpr ⟨by rw [hsy u k hu (by omega)]; exact hf, hAk⟩
          by_cases hQu : Q u
          · obtain ⟨-, t', ht'⟩ := hM.2.2 u hQu
            have hne : t' ≠ k := fun q => by rw [q, hOk] at ht'; cases ht'
            refine Or.inr ⟨hAk, u, hu, hf, hT, right u (clr (put O k u) t') hu hQu hf hT (mS_mv (mS_clr hM hOk) ht' hne (by omega) hgu) (fun t z e => ?_)⟩
            obtain ⟨a, b⟩ := clr_c e
            rcases put_c b with ⟨c, d⟩ | ⟨c, d⟩
            · exact Or.inl ⟨c, d⟩
            · exact Or.inr ⟨c, fun q => a (hM.2.1 t t' z d (by rw [q]; exact ht')), d⟩
          · have hAu : bt A u = false := ff_of fun q => by rw [h2 u q] at hT; cases hT
            exact absurd ⟨_, mS_new (mS_clr hM hOk) hQu (by omega) (by omega) hgu⟩ (hmax u hu hAu hQu)
      · obtain ⟨a, b, c⟩ := hM.1 k z hOk
        obtain ⟨e1, e2⟩ := tg_t.mp b
        have hzn := (hQ z c).1
        have hTz : bt T z = false := ff_of fun q => by have := (hO k z hOk).mpr q; omega
        refine Or.inr ⟨hAk, z, hzn, by rw [hsy k z (by omega) hzn]; exact e1, hTz, right z O hzn c (by rw [hsy k z (by omega) hzn]; exact e1) hTz hM (fun t y e => ?_)⟩
        by_cases q : t = k
        · rw [q, hOk] at e; cases e; exact Or.inl ⟨q, rfl⟩
        · exact Or.inr ⟨q, fun q2 => q (hM.2.1 t k y e (by rw [q2]; exact hOk)), e⟩
theorem gp_nm {n : Nat} {f : Nat → Int32} {A C : Int32} (hn : n ≤ 24) (hsy : ∀ a b, a < n → b < n → bt (f a) b = bt (f b) a) : ∀ (m k : Nat) (T : Int32) (O : Nat → Option Nat), k + m = n → mS (tg f A) (fun z => bt T z = true ∧ bt A z = false) O → (∀ t z, O t = some z → t < k) → (∀ z, bt A z = true → bt T z = true) → (∀ z, bt T z = true → z < n) → gP n f A m k T C → mA (tg f A) (fun z => bt C z = true ∧ bt A z = false) ∧ (∀ z, bt A z = true → bt C z = true) ∧ ∀ z, bt C z = true → z < n := by
  intro m
  induction m with
  | zero =>
    intro k T O hk hM hO h2 h3 hP
    have hP : C = T := hP
    rw [hP]
    exact ⟨⟨O, hM⟩, h2, h3⟩
  | succ m ih =>
    intro k T O hk hM hO h2 h3 hP
    rcases hP with ⟨-, hP⟩ | ⟨hAk, u, hu, hf, hT, hP⟩
    · exact ih (k + 1) T O (by omega) hM (fun t z e => by have := hO t z e; omega) h2 h3 hP
    · have orT : ∀ {v}, (bt (T ||| b1 u) v = true ↔ (bt T v = true ∨ v = u)) := fun {v} => by rw [bt_or1 _ (by omega), Bool.or_eq_true, decide_eq_true_eq]
      have hOk : O k = none := by
        cases h : O k with
        | none => rfl
        | some z => have := hO k z h; omega
      have hAu : bt A u = false := ff_of fun q => by rw [h2 u q] at hT; cases hT
      have hnew := mS_new (x := u) (y := k) (mS_clr hM hOk) (fun q => by rw [q.1] at hT; cases hT) (by omega) (by omega) (tg_t.mpr ⟨by rw [hsy u k hu (by omega)]; exact hf, hAk⟩)
      refine ih (k + 1) (T ||| b1 u) (put O k u) (by omega) (mS_cg hnew fun z => ?_) (fun t z e => ?_) (fun z hz => orT.mpr (Or.inl (h2 z hz))) (fun z hz => (orT.mp hz).elim (h3 z) (fun e => by omega)) hP
      · rw [orT]
        constructor
        · rintro (⟨a, b⟩ | e)
          · exact ⟨Or.inl a, b⟩
          · rw [e]; exact ⟨Or.inr rfl, hAu⟩
        · rintro ⟨a | a, b⟩
          · exact Or.inl ⟨a, b⟩
          · exact Or.inr a
      · rcases put_c e with ⟨a, -⟩ | ⟨-, a⟩
        · omega
        · have := hO t z a; omega
end C9yg
