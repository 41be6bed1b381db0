/-! a new array takes an old one's place -/
section ZREN
variable {X : zX} {cc : ByteArray} {own : String} {ret : Option FieldType} {nL d mc ms nw : Nat} {np : Bool} {L : List (Option zV)} {S : List zV} {w : List zE} {k n pc : Nat}
def zstv (m b : Nat) (v : zV) : zV := match v with
  | .inl u => .inl u
  | .inr q => .inr (if q.1 = m then (b, q.2) else q)
def zste (m b : Nat) (e : zE) : zE := match e with
  | .inl o => .inl (o.1, o.2.map (zstv m b))
  | e => e
def znm (m : Nat) (v : zV) : Bool := match v with
  | .inr q => !(q.1 == m)
  | .inl _ => true
def zne (m : Nat) (e : zE) : Prop := match e with
  | .inr (.inl a) => match a.2.2 with
    | .inr (.inr f) => ∀ i, znm m (f i) = true
    | _ => True
  | .inr (.inr (.inr (.inr (.inl q)))) => ∀ i, znm m (q.1 i) = true
  | _ => True
def znes (m : Nat) : List zE → Prop
  | [] => True
  | e :: w => zne m e ∧ znes m w
theorem znes_mem {m : Nat} : ∀ {w : List zE}, znes m w → ∀ e ∈ w, zne m e
  | [], _, e, he => by cases he
  | a :: w, h, e, he => by
    rcases List.mem_cons.mp he with rfl | q
    · exact h.1
    · exact znes_mem h.2 e q
theorem zcv_stv {m b : Nat} {ad : Nat → Nat → Nat} (v : zV) : zcv (fun p j => ad (if p = m then (b, j) else (p, j)).1 (if p = m then (b, j) else (p, j)).2) v = zcv ad (zstv m b v) := by
  rcases v with u | ⟨p, j⟩
  · rfl
  · simp only [zcv, zstv]
theorem zcv_nm {m b : Nat} {ad : Nat → Nat → Nat} {v : zV} (h : znm m v = true) : zcv (fun p j => ad (if p = m then (b, j) else (p, j)).1 (if p = m then (b, j) else (p, j)).2) v = zcv ad v := by
  rcases v with u | ⟨p, j⟩
  · rfl
  · simp only [znm, Bool.not_eq_true', beq_eq_false_iff_ne] at h
    simp only [zcv, if_neg h]
theorem zcell_ren {m b p j : Nat} {e : zE} {c : zc} (hp : p ≠ m) (he : zne m e) (hc : zcell p e j = some c) : ∃ c0, zcell p (zste m b e) j = some c0 ∧ ∀ (cA : Nat → ClassId) (ad : Nat → Nat → Nat), zcc cA (fun p j => ad (if p = m then (b, j) else (p, j)).1 (if p = m then (b, j) else (p, j)).2) c = zcc cA ad c0 := by
  rcases e with o | a | m' | q | q | u
  · simp only [zcell] at hc
    split at hc
    · rename_i hj
      cases hc
      refine ⟨.inl (o.1, o.2.map (zstv m b)), ?_, fun cA ad => ?_⟩
      · simp only [zste, zcell, hj, if_true]
      · simp only [zcc, List.map_map]
        congr 2
        exact List.map_congr_left fun v _ => zcv_stv v
    · cases hc
  · simp only [zcell] at hc
    split at hc
    · rename_i hj
      cases hc
      refine ⟨.inr a, by simp only [zste, zcell, hj, if_true], fun cA ad => ?_⟩
      obtain ⟨t, n, f | f | f⟩ := a
      · rfl
      · rfl
      · simp only [zcc]
        have : ∀ i, zcv (fun p j => ad (if p = m then (b, j) else (p, j)).1 (if p = m then (b, j) else (p, j)).2) (f i) = zcv ad (f i) := fun i => zcv_nm (he i)
        simp [this]
    · cases hc
  · refine ⟨c, hc, fun cA ad => ?_⟩
    obtain ⟨t, te, n, k, M⟩ := m'
    cases j with
    | zero =>
      simp only [zcell] at hc
      cases hc
      simp only [zcc, zcv, if_neg hp]
    | succ i =>
      simp only [zcell] at hc
      split at hc
      · cases hc
        cases M <;> rfl
      · cases hc
  · refine ⟨c, hc, fun cA ad => ?_⟩
    cases j with
    | zero =>
      simp only [zcell] at hc
      cases hc
      simp only [zcc, List.map_map]
      congr 2
      refine List.map_congr_left fun k _ => ?_
      simp only [Function.comp, zmF]
      split
      · rfl
      · rfl
      · simp only [zcv, if_neg hp]
    | succ k =>
      simp only [zcell, zmA] at hc
      split at hc <;> first | (cases hc; rfl) | cases hc
  · refine ⟨c, hc, fun cA ad => ?_⟩
    cases j with
    | zero =>
      simp only [zcell] at hc
      cases hc
      simp only [zcc]
      have : ∀ i, zcv (fun p j => ad (if p = m then (b, j) else (p, j)).1 (if p = m then (b, j) else (p, j)).2) (q.1 i) = zcv ad (q.1 i) := fun i => zcv_nm (he i)
      simp [this]
    | succ i =>
      simp only [zcell] at hc
      split at hc
      · split at hc
        · cases hc
        · split at hc
          · cases hc
            simp only [zcc, List.map_cons, List.map_nil, zcv, if_neg hp]
          · cases hc
            rfl
      · cases hc
  · cases hc
theorem z_ren (F : zFix X cc own ret nL d mc ms nw np) (m b : Nat) {w' : List zE} (L' : List (Option zV)) (S' : List zV) {t N : Nat} {f : Nat → Int32} (e0 : zE) (hb : w'.length ≤ b) (hm : w'[m]? = some (.inr (.inl (t, N, .inl f)))) (hwb : w[b]? = some (.inr (.inl (t, N, .inl f)))) (hw : w.take w'.length = (w'.map (zste m b)).set m e0) (hne : znes m w') (hnw : nw ≤ m) (hL : L = L'.map (Option.map (zstv m b))) (hS : S = S'.map (zstv m b))
    (kk : Z X L' S' w' k n pc) : Z X L S w k n pc := by
  refine z_shift F (fun p j => if p = m then (b, j) else (p, j)) w' L' S' (fun p j c h => ?_) (fun p j p' j' c c' h1 h2 he => ?_) (fun p j h _ => ?_) (by rw [hL, List.length_map]) (fun ad i v h => ?_) (fun ad => ?_) kk
  · obtain ⟨e, a1, a2⟩ := zat_e h
    have hl := (List.getElem?_eq_some_iff.mp a1).1
    by_cases q : p = m
    · subst q
      rw [a1] at hm; cases hm
      refine ⟨c, ?_, fun cA ad => ?_⟩
      · simp only [if_true, zat, hwb, Option.bind_some]
        exact a2
      · simp only [zcell] at a2
        split at a2
        · cases a2; rfl
        · cases a2
    · obtain ⟨c0, b1_, b2_⟩ := zcell_ren (b := b) q (znes_mem hne e (List.mem_of_getElem? a1)) a2
      refine ⟨c0, ?_, b2_⟩
      have h9 : w[p]? = some (zste m b e) := by
        have h8 : (w.take w'.length)[p]? = w[p]? := by rw [List.getElem?_take, if_pos hl]
        rw [← h8, hw, List.getElem?_set_ne (fun z => q z.symm), List.getElem?_map, a1]; rfl
      simp only [if_neg q, zat, h9, Option.bind_some]
      exact b1_
  · have l1 := zat_lt h1
    have l2 := zat_lt h2
    by_cases q1 : p = m
    · by_cases q2 : p' = m
      · simp only [q1, q2, if_true, Prod.mk.injEq] at he
        exact ⟨by rw [q1, q2], he.2⟩
      · simp only [q1, if_true, if_neg q2, Prod.mk.injEq] at he
        omega
    · by_cases q2 : p' = m
      · simp only [q2, if_true, if_neg q1, Prod.mk.injEq] at he
        omega
      · simp only [if_neg q1, if_neg q2, Prod.mk.injEq] at he
        exact he
  · have : p ≠ m := by omega
    simp only [if_neg this]
  · refine ⟨zstv m b v, ?_, zcv_stv v⟩
    rw [hL, List.getElem?_map, h]; rfl
  · rw [hS, List.map_map]
    exact List.map_congr_left fun v _ => zcv_stv v
end ZREN
