section ZC1
/-- another numbering of the places -/
def zrn (g : Nat → Nat) (v : zV) : zV := match v with
  | .inl u => .inl u
  | .inr q => .inr (g q.1, q.2)
def zrnK (g : Nat → Nat) (c : zC) : zC := match c with
  | .inl f => .inl f
  | .inr (.inl f) => .inr (.inl f)
  | .inr (.inr f) => .inr (.inr (fun i => zrn g (f i)))
def zrnC (g : Nat → Nat) (c : zc) : zc := match c with
  | .inl o => .inl (o.1, o.2.map (zrn g))
  | .inr a => .inr (a.1, a.2.1, zrnK g a.2.2)
def zrnE (g : Nat → Nat) (e : zE) : zE := match e with
  | .inl o => .inl (o.1, o.2.map (zrn g))
  | .inr (.inl a) => .inr (.inl (a.1, a.2.1, zrnK g a.2.2))
  | .inr (.inr (.inr (.inr (.inl q)))) => .inr (.inr (.inr (.inr (.inl (fun i => zrn g (q.1 i), q.2)))))
  | e => e
theorem zcell_rn (g : Nat → Nat) (p : Nat) (e : zE) (j : Nat) : zcell (g p) (zrnE g e) j = (zcell p e j).map (zrnC g) := by
  rcases e with o | a | m | b | q | u
  · simp only [zrnE, zcell]
    split <;> rfl
  · simp only [zrnE, zcell]
    split <;> rfl
  · obtain ⟨t, te, n, k, M⟩ := m
    cases j with
    | zero => rfl
    | succ i =>
      simp only [zrnE, zcell]
      split
      · cases M <;> rfl
      · rfl
  · cases j with
    | zero =>
      simp only [zrnE, zcell, Option.map_some, zrnC, List.map_map]
      congr 3
    | succ k =>
      simp only [zrnE, zcell, zmA]
      split <;> rfl
  · cases j with
    | zero => rfl
    | succ i =>
      simp only [zrnE, zcell]
      split
      · split
        · rfl
        · split <;> rfl
      · rfl
  · rfl
theorem zcv_rn {g : Nat → Nat} {ad ad' : Nat → Nat → Nat} (h : ∀ p j, ad' (g p) j = ad p j) (v : zV) : zcv ad' (zrn g v) = zcv ad v := by
  cases v with
  | inl u => rfl
  | inr q => simp [zrn, zcv, h]
theorem zcc_rn {g : Nat → Nat} {ad ad' : Nat → Nat → Nat} (h : ∀ p j, ad' (g p) j = ad p j) (cA : Nat → ClassId) (c : zc) : zcc cA ad' (zrnC g c) = zcc cA ad c := by
  rcases c with o | a
  · simp only [zrnC, zcc, List.map_map]
    congr 2
    refine List.map_congr_left fun v _ => ?_
    simp [Function.comp, zcv_rn h]
  · obtain ⟨t, n, f | f | f⟩ := a
    · rfl
    · rfl
    · simp only [zrnC, zrnK, zcc, zcv_rn h]
/-- a callee's places in its caller's world: the given ones, and new ones behind the caller's N -/
def zsg (σ : List Nat) (N p : Nat) : Nat := if p < σ.length then σ.getD p 0 else N + (p - σ.length)
def zfind (σ : List Nat) (q : Nat) : Option Nat := match σ with
  | [] => none
  | a :: σ => if a = q then some 0 else (zfind σ q).map (· + 1)
theorem zfind_some : ∀ {σ : List Nat} {q i : Nat}, zfind σ q = some i → σ[i]? = some q
  | [], _, _, h => by cases h
  | a :: σ, q, i, h => by
    unfold zfind at h
    split at h
    · cases h; simp [*]
    · cases hz : zfind σ q with
      | none => rw [hz] at h; cases h
      | some k =>
        rw [hz] at h
        cases h
        simpa using zfind_some hz
theorem zfind_none : ∀ {σ : List Nat} {q : Nat}, zfind σ q = none → ∀ i : Nat, σ[i]? ≠ some q
  | [], _, _, i => by simp
  | a :: σ, q, h, i => by
    unfold zfind at h
    split at h
    · cases h
    · rename_i hne
      cases hz : zfind σ q with
      | none =>
        cases i with
        | zero => simpa using hne
        | succ i => simpa using zfind_none hz i
      | some k => rw [hz] at h; cases h
def zisH (e : zE) : Bool := match e with
  | .inr (.inr (.inr (.inr (.inr _)))) => true
  | _ => false
/-- the caller's world behind the call -/
def zbk (σ : List Nat) (N : Nat) (w0 w1 : List zE) (q : Nat) : List zE → List zE
  | [] => (w1.drop σ.length).map (zrnE (zsg σ N))
  | e :: w => (match zfind σ q with
    | some i => bif zisH (w0.getD i zH) then e else zrnE (zsg σ N) (w1.getD i zH)
    | none => e) :: zbk σ N w0 w1 (q + 1) w
theorem zbk_get (σ : List Nat) (N : Nat) (w0 w1 : List zE) : ∀ (w : List zE) (q r : Nat), (zbk σ N w0 w1 q w)[r]? = if r < w.length then (w[r]?).map (fun e => match zfind σ (q + r) with
    | some i => bif zisH (w0.getD i zH) then e else zrnE (zsg σ N) (w1.getD i zH)
    | none => e) else (w1[σ.length + (r - w.length)]?).map (zrnE (zsg σ N))
  | [], q, r => by simp [zbk]
  | e :: w, q, 0 => by simp [zbk]
  | e :: w, q, r + 1 => by
    simp only [zbk, List.getElem?_cons_succ, List.length_cons]
    rw [zbk_get σ N w0 w1 w (q + 1) r]
    have : q + 1 + r = q + (r + 1) := by omega
    rw [this]
    simp only [Nat.add_lt_add_iff_right, Nat.add_sub_add_right]
theorem zbk_len (σ : List Nat) (N : Nat) (w0 w1 : List zE) : ∀ (w : List zE) (q : Nat), w.length ≤ (zbk σ N w0 w1 q w).length
  | [], q => Nat.zero_le _
  | e :: w, q => by simpa [zbk] using zbk_len σ N w0 w1 w (q + 1)
/-- the callee's world lies in the caller's: nothing asked where the callee has nothing -/
def zsub (σ : List Nat) (N : Nat) (w : List zE) : List Nat → List zE → Prop
  | p :: ps, e :: es => (zisH e = true ∨ w[p]? = some (zrnE (zsg σ N) e)) ∧ zsub σ N w ps es
  | [], [] => True
  | _, _ => False
theorem zsub_len {σ : List Nat} {N : Nat} {w : List zE} : ∀ {ps : List Nat} {es : List zE}, zsub σ N w ps es → ps.length = es.length
  | [], [], _ => rfl
  | p :: ps, e :: es, h => congrArg (· + 1) (zsub_len h.2)
  | [], _ :: _, h => h.elim
  | _ :: _, [], h => h.elim
theorem zsub_get {σ : List Nat} {N : Nat} {w : List zE} : ∀ {ps : List Nat} {es : List zE}, zsub σ N w ps es → ∀ {i p : Nat} {e : zE}, ps[i]? = some p → es[i]? = some e → zisH e = true ∨ w[p]? = some (zrnE (zsg σ N) e)
  | [], [], _, i, p, e, h1, _ => by simp at h1
  | p0 :: ps, e0 :: es, h, i, p, e, h1, h2 => by
    cases i with
    | zero => cases h1; cases h2; exact h.1
    | succ i => exact zsub_get h.2 (by simpa using h1) (by simpa using h2)
  | [], _ :: _, h, _, _, _, _, _ => h.elim
  | _ :: _, [], h, _, _, _, _, _ => h.elim
/-- what a caller keeps may name the places below N; place 0 only where the callee has no slots -/
def zokB (P : Bool) (N : Nat) (v : zV) : Bool := match v with
  | .inr q => Nat.blt q.1 N && (!(q.1 == 0) || !P)
  | .inl _ => true
def zoB (P : Bool) (N : Nat) (o : Option zV) : Bool := match o with
  | some v => zokB P N v
  | none => true
def zke (P : Bool) (N : Nat) (e : zE) : Prop := match e with
  | .inl o => o.2.all (zokB P N) = true
  | .inr (.inl a) => match a.2.2 with
    | .inr (.inr f) => ∀ i, zokB P N (f i) = true
    | _ => True
  | .inr (.inr (.inr (.inr (.inl q)))) => P = false ∧ ∀ i, zokB P N (q.1 i) = true
  | _ => True
/-- each entry that the callee doesn't have -/
def zhas (σ : List Nat) (w0 : List zE) (q : Nat) : Bool := match zfind σ q with
  | some i => !zisH (w0.getD i zH)
  | none => false
def zkw (σ : List Nat) (w0 : List zE) (P : Bool) (N : Nat) (q : Nat) : List zE → Prop
  | [] => True
  | e :: w => (zhas σ w0 q = true ∨ zke P N e) ∧ zkw σ w0 P N (q + 1) w
theorem zkw_get {σ : List Nat} {w0 : List zE} {P : Bool} {N : Nat} : ∀ {w : List zE} {q r : Nat} {e : zE}, zkw σ w0 P N q w → w[r]? = some e → zhas σ w0 (q + r) = true ∨ zke P N e
  | [], _, _, _, _, h => by simp at h
  | e0 :: w, q, 0, e, h, h1 => by cases h1; exact h.1
  | e0 :: w, q, r + 1, e, h, h1 => by
    have := zkw_get (r := r) h.2 (by simpa using h1)
    rwa [show q + 1 + r = q + (r + 1) by omega] at this
theorem zcv_B {P : Bool} {N : Nat} {ad ad' : Nat → Nat → Nat} (h : ∀ p j, p < N → (p = 0 → P = false) → ad' p j = ad p j) {v : zV} (hv : zokB P N v = true) : zcv ad' v = zcv ad v := by
  cases v with
  | inl u => rfl
  | inr q =>
    simp only [zokB, Bool.and_eq_true, Nat.blt_eq, Bool.or_eq_true, Bool.not_eq_true', beq_eq_false_iff_ne] at hv
    simp only [zcv]
    rw [h q.1 q.2 hv.1 (fun h0 => hv.2.resolve_left (fun h1 => h1 h0))]
theorem zcell_B {P : Bool} {N p j : Nat} {e : zE} {c : zc} (hp : p < N) (hp0 : p = 0 → P = false) (he : zke P N e) (hc : zcell p e j = some c) {cA : Nat → ClassId} {ad ad' : Nat → Nat → Nat} (h : ∀ p j, p < N → (p = 0 → P = false) → ad' p j = ad p j) : zcc cA ad' c = zcc cA ad c := by
  rcases e with o | a | m | b | q | u
  · simp only [zcell] at hc
    split at hc
    · cases hc
      simp only [zcc]
      congr 2
      exact List.map_congr_left fun v hv => zcv_B h (List.all_eq_true.mp (show o.2.all (zokB P N) = true from he) v hv)
    · cases hc
  · simp only [zcell] at hc
    split at hc
    · cases hc
      obtain ⟨t, n, f | f | f⟩ := a
      · rfl
      · rfl
      · simp only [zcc]
        have : ∀ i, zcv ad' (f i) = zcv ad (f i) := fun i => zcv_B h (he i)
        simp [this]
    · cases hc
  · obtain ⟨t, te, n, k, M⟩ := m
    cases j with
    | zero =>
      simp only [zcell] at hc
      cases hc
      simp only [zcc, zcv, h p _ hp hp0]
    | succ i =>
      simp only [zcell] at hc
      split at hc
      · cases hc
        cases M <;> rfl
      · cases hc
  · cases j with
    | zero =>
      simp only [zcell] at hc
      cases hc
      simp only [zcc, List.map_map]
      congr 2
      refine List.map_congr_left fun k _ => ?_
      simp only [Function.comp, zmF]
      split
      · rfl
      · rfl
      · simp [zcv, h p _ hp hp0]
    | succ k =>
      simp only [zcell, zmA] at hc
      split at hc <;> first | (cases hc; rfl) | cases hc
  · cases j with
    | zero =>
      simp only [zcell] at hc
      cases hc
      simp only [zcc]
      have : ∀ i, zcv ad' (q.1 i) = zcv ad (q.1 i) := fun i => zcv_B h (he.2 i)
      simp [this]
    | succ i =>
      simp only [zcell] at hc
      split at hc
      · split at hc
        · cases hc
        · split at hc
          · cases hc
            simp [zcc, zcv, h p _ hp hp0]
          · cases hc
            rfl
      · cases hc
  · cases hc
end ZC1
