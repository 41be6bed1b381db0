/-! the law's world: places told anew (gena9.py) -/
section CA9
section RA9
variable {X : zX} {cc : ByteArray} {own : String} {ret : Option FieldType} {nL d mc ms nw : Nat} {np : Bool} {L : List (Option zV)} {S : List zV} {w : List zE} {k n pc : Nat}
theorem z_perm (F : zFix X cc own ret nL d mc ms nw np) {σ : List Nat} {N : Nat} (w0 : List zE) (L' : List (Option zV)) (S' : List zV) (hz : zcall σ N w w0) (hag : ∀ p, p < nw → (p = 0 → np = false) → zsg σ N p = p) (hL : L = L'.map (Option.map (zrn (zsg σ N)))) (hS : S = S'.map (zrn (zsg σ N))) (kk : Z X L' S' w0 k n pc) : Z X L S w k n pc := by
  refine z_shift F (fun p j => (zsg σ N p, j)) w0 L' S' (fun p j c h => ⟨_, (hz.at h).1, fun cA ad => (zcc_rn (g := zsg σ N) (ad := fun p j => ad (zsg σ N p) j) (fun _ _ => rfl) cA c).symm⟩) (fun p j p' j' c c' a b he => ?_) (fun p j hp hq => by rw [hag p hp hq]) (by rw [hL, List.length_map]) (fun ad i v h => ⟨zrn (zsg σ N) v, by rw [hL, List.getElem?_map, h]; rfl, (zcv_rn (g := zsg σ N) (ad := fun p j => ad (zsg σ N p) j) (ad' := ad) (fun _ _ => rfl) v).symm⟩) (fun ad => ?_) kk
  · obtain ⟨a1, a2⟩ := Prod.mk.inj he
    exact ⟨zsg_inj hz.2.1 hz.lt a1, a2⟩
  · rw [hS, List.map_map]
    exact List.map_congr_left fun v _ => (zcv_rn (g := zsg σ N) (ad := fun p j => ad (zsg σ N p) j) (ad' := ad) (fun _ _ => rfl) v).symm
/-- from here on the world's start is w1 (the addresses are what they are now) -/
theorem z_rebase (w1 : List zE) (kk : ∀ ad1, Z (X.1, X.2.1, X.2.2.1, X.2.2.2.1, X.2.2.2.2.1, ad1, w1) L S w k n pc) : Z X L S w k n pc := fun ad H locs ls _ h1 h2 h3 h4 => kk ad ad H locs ls (fun _ _ _ _ => rfl) h1 h2 h3 h4
theorem zFix.rebase (F : zFix X cc own ret nL d mc ms nw np) (ad1 : Nat → Nat → Nat) (w1 : List zE) : zFix (X.1, X.2.1, X.2.2.1, X.2.2.2.1, X.2.2.2.2.1, ad1, w1) cc own ret nL d mc ms w1.length (zisP w1) :=
  ⟨F.1, F.2.1, F.2.2.1, F.2.2.2.1, F.2.2.2.2.1, F.2.2.2.2.2.1, F.2.2.2.2.2.2.1, F.2.2.2.2.2.2.2.1, F.2.2.2.2.2.2.2.2.1, F.2.2.2.2.2.2.2.2.2.1, F.2.2.2.2.2.2.2.2.2.2.1, rfl, rfl⟩
/-- where the reference's arrays lie among those made -/
def mIx (k : Nat) : Nat := match k with
  | 1 => 0
  | 2 => 1
  | 3 => 2
  | 6 => 3
  | 7 => 4
  | 18 => 5
  | 21 => 6
  | 22 => 7
  | 23 => 8
  | 26 => 9
  | 27 => 10
  | 28 => 11
  | 29 => 12
  | 30 => 13
  | 31 => 14
  | 32 => 15
  | 33 => 16
  | 35 => 17
  | 36 => 18
  | 37 => 19
  | 43 => 20
  | 44 => 21
  | 50 => 22
  | 51 => 23
  | 52 => 24
  | 53 => 25
  | 54 => 26
  | 55 => 27
  | 56 => 28
  | 57 => 29
  | 59 => 30
  | 62 => 31
  | 63 => 32
  | 64 => 33
  | 65 => 34
  | 66 => 35
  | 67 => 36
  | 68 => 37
  | 69 => 38
  | 70 => 39
  | 71 => 40
  | 72 => 41
  | 73 => 42
  | 74 => 43
  | _ => 99
abbrev mF0 : Nat → Int32 := fun k => if k = 10 then -1 else 0
abbrev mB0 : zB := (mF0, fun _ => 0, fun _ _ => 0, fun _ _ => 0)
def mG (p j : Nat) : Nat × Nat := if p = 22 then (match j with | 0 => (22, 0) | k + 1 => (24 + mIx k, 0)) else (p, j)
abbrev mRaw24 : List zV := [zi 0, zr 24 0, zr 25 0, zr 26 0, zi 0, zi 0, zr 27 0, zr 28 0, zi 0, zi 0, zi (-1), zi 0, zi 0, zi 0, zi 0, zi 0, zi 0, zl 0, zr 29 0, zi 0, zi 0, zr 30 0, zr 31 0, zr 32 0, zi 0, zi 0, zr 33 0, zr 34 0, zr 35 0, zr 36 0, zr 37 0, zr 38 0, zr 39 0, zr 40 0, zi 0, zr 41 0, zr 42 0, zr 43 0, zi 0, zi 0, zi 0, zi 0, zi 0, zr 44 0, zr 45 0, zi 0, zi 0, zi 0, zi 0, zi 0, zr 46 0, zr 47 0, zr 48 0, zr 49 0, zr 50 0, zr 51 0, zr 52 0, zr 53 0, zi 0, zr 54 0, zi 0, zi 0, zr 55 0, zr 56 0, zr 57 0, zr 58 0, zr 59 0, zr 60 0, zr 61 0, zr 62 0, zr 63 0, zr 64 0, zr 65 0, zr 66 0, zr 67 0]
theorem mG_fs (ad : Nat → Nat → Nat) : ((List.range 75).map (zmF 22 mB0)).map (zcv (fun p j => ad (mG p j).1 (mG p j).2)) = mRaw24.map (zcv ad) := rfl
theorem mG_ar : ∀ (k : Nat) (c : zc), zmA mB0 k = some c → (mArr[mIx k]?).bind (fun e => zcell (24 + mIx k) e 0) = some c ∧ ∀ (cA : Nat → ClassId) (ad : Nat → Nat → Nat), zcc cA (fun p j => ad (mG p j).1 (mG p j).2) c = zcc cA ad c
  | 0, c, h => by cases h
  | 1, c, h => by cases h; exact ⟨rfl, fun cA ad => rfl⟩
  | 2, c, h => by cases h; exact ⟨rfl, fun cA ad => rfl⟩
  | 3, c, h => by cases h; exact ⟨rfl, fun cA ad => rfl⟩
  | 4, c, h => by cases h
  | 5, c, h => by cases h
  | 6, c, h => by cases h; exact ⟨rfl, fun cA ad => rfl⟩
  | 7, c, h => by cases h; exact ⟨rfl, fun cA ad => rfl⟩
  | 8, c, h => by cases h
  | 9, c, h => by cases h
  | 10, c, h => by cases h
  | 11, c, h => by cases h
  | 12, c, h => by cases h
  | 13, c, h => by cases h
  | 14, c, h => by cases h
  | 15, c, h => by cases h
  | 16, c, h => by cases h
  | 17, c, h => by cases h
  | 18, c, h => by cases h; exact ⟨rfl, fun cA ad => rfl⟩
  | 19, c, h => by cases h
  | 20, c, h => by cases h
  | 21, c, h => by cases h; exact ⟨rfl, fun cA ad => rfl⟩
  | 22, c, h => by cases h; exact ⟨rfl, fun cA ad => rfl⟩
  | 23, c, h => by cases h; exact ⟨rfl, fun cA ad => rfl⟩
  | 24, c, h => by cases h
  | 25, c, h => by cases h
  | 26, c, h => by cases h; exact ⟨rfl, fun cA ad => rfl⟩
  | 27, c, h => by cases h; exact ⟨rfl, fun cA ad => rfl⟩
  | 28, c, h => by cases h; exact ⟨rfl, fun cA ad => rfl⟩
  | 29, c, h => by cases h; exact ⟨rfl, fun cA ad => rfl⟩
  | 30, c, h => by cases h; exact ⟨rfl, fun cA ad => rfl⟩
  | 31, c, h => by cases h; exact ⟨rfl, fun cA ad => rfl⟩
  | 32, c, h => by cases h; exact ⟨rfl, fun cA ad => rfl⟩
  | 33, c, h => by cases h; exact ⟨rfl, fun cA ad => rfl⟩
  | 34, c, h => by cases h
  | 35, c, h => by cases h; exact ⟨rfl, fun cA ad => rfl⟩
  | 36, c, h => by cases h; exact ⟨rfl, fun cA ad => rfl⟩
  | 37, c, h => by cases h; exact ⟨rfl, fun cA ad => rfl⟩
  | 38, c, h => by cases h
  | 39, c, h => by cases h
  | 40, c, h => by cases h
  | 41, c, h => by cases h
  | 42, c, h => by cases h
  | 43, c, h => by cases h; exact ⟨rfl, fun cA ad => rfl⟩
  | 44, c, h => by cases h; exact ⟨rfl, fun cA ad => rfl⟩
  | 45, c, h => by cases h
  | 46, c, h => by cases h
  | 47, c, h => by cases h
  | 48, c, h => by cases h
  | 49, c, h => by cases h
  | 50, c, h => by cases h; exact ⟨rfl, fun cA ad => rfl⟩
  | 51, c, h => by cases h; exact ⟨rfl, fun cA ad => rfl⟩
  | 52, c, h => by cases h; exact ⟨rfl, fun cA ad => rfl⟩
  | 53, c, h => by cases h; exact ⟨rfl, fun cA ad => rfl⟩
  | 54, c, h => by cases h; exact ⟨rfl, fun cA ad => rfl⟩
  | 55, c, h => by cases h; exact ⟨rfl, fun cA ad => rfl⟩
  | 56, c, h => by cases h; exact ⟨rfl, fun cA ad => rfl⟩
  | 57, c, h => by cases h; exact ⟨rfl, fun cA ad => rfl⟩
  | 58, c, h => by cases h
  | 59, c, h => by cases h; exact ⟨rfl, fun cA ad => rfl⟩
  | 60, c, h => by cases h
  | 61, c, h => by cases h
  | 62, c, h => by cases h; exact ⟨rfl, fun cA ad => rfl⟩
  | 63, c, h => by cases h; exact ⟨rfl, fun cA ad => rfl⟩
  | 64, c, h => by cases h; exact ⟨rfl, fun cA ad => rfl⟩
  | 65, c, h => by cases h; exact ⟨rfl, fun cA ad => rfl⟩
  | 66, c, h => by cases h; exact ⟨rfl, fun cA ad => rfl⟩
  | 67, c, h => by cases h; exact ⟨rfl, fun cA ad => rfl⟩
  | 68, c, h => by cases h; exact ⟨rfl, fun cA ad => rfl⟩
  | 69, c, h => by cases h; exact ⟨rfl, fun cA ad => rfl⟩
  | 70, c, h => by cases h; exact ⟨rfl, fun cA ad => rfl⟩
  | 71, c, h => by cases h; exact ⟨rfl, fun cA ad => rfl⟩
  | 72, c, h => by cases h; exact ⟨rfl, fun cA ad => rfl⟩
  | 73, c, h => by cases h; exact ⟨rfl, fun cA ad => rfl⟩
  | 74, c, h => by cases h; exact ⟨rfl, fun cA ad => rfl⟩
  | k + 75, c, h => by cases h
theorem mIx_inj : ∀ k, k < 75 → ∀ k', k' < 75 → mIx k < 44 → mIx k = mIx k' → k = k' := by decide +kernel
theorem mIx_lt : ∀ (k : Nat) (c : zc), zmA mB0 k = some c → k < 75 ∧ mIx k < 44 := fun k c h => by
  by_cases q : k < 75
  · refine ⟨q, ?_⟩
    have h2 : (zmA mB0 k).isSome = true := by rw [h]; rfl
    have h3 : (zmA mB0 k).isSome = decide ((zmT k).1 = 2 ∨ (zmT k).1 = 3) := by
      unfold zmA
      split
      · rename_i e; simp [e]
      · rename_i e; simp [e]
      · rename_i e1 e2
        simp only [Option.isSome_none]
        exact (decide_eq_false (fun w => w.elim e1 e2)).symm
    rw [h3, decide_eq_true_eq] at h2
    exact (by decide +kernel : ∀ k, k < 75 → ((zmT k).1 = 2 ∨ (zmT k).1 = 3) → mIx k < 44) k q h2
  · obtain ⟨t, rfl⟩ : ∃ t, k = t + 75 := ⟨k - 75, by omega⟩
    cases h
abbrev wNew (te : Nat) (i0 i1 i2 i3 i4 i5 : Int32) : List zE := [zPl (fun _ => zn) (fun _ => none), xO 0 (-1), zAi 3 400 (fun _ => 0), eFl 4 0 0 0, zAi 0 24 (fun _ => 0), zO 3 [zr 6 0, zr 7 0, zr 8 0, zi 0], zMi 4 0 48 48 (fun _ _ => 0), zAi 0 48 (fun _ => 0), zAi 0 48 (fun _ => 0), eLs (nI 0) 0 (zq te), zH, zO 4 [zr 12 0, zr 13 0, zr 14 0, zr 15 0, zr 17 0, zi 0, zi i0, zi i1, zi i2, zi i3, zi i4, zr 19 0, zr 20 0, zi i5], zAi 0 15 (fun _ => 0), zAi 0 15 (fun _ => 0), zAi 2 32768 (fun _ => 0), eFl 16 0 0 0, zAi 0 24 (fun _ => 0), eNet 18 (nI 6) (nI 8), zAi 0 24 (fun _ => 0), zAi 0 6 (fun _ => 0), zAi 0 15 (fun _ => 0), zAi 0 0 (fun _ => 0), zG mB0.1 mB0.2.1 mB0.2.2.1 mB0.2.2.2, zAl 1 1 (fun _ => 0)]
abbrev wMid (te : Nat) (i0 i1 i2 i3 i4 i5 : Int32) : List zE := (zAr 7 8 (fun _ => zn)) :: (xO 0 (-1)) :: (zAi 3 400 (fun _ => 0)) :: (eFl 4 0 0 0) :: (zAi 0 24 (fun _ => 0)) :: (zO 3 [zr 6 0, zr 7 0, zr 8 0, zi 0]) :: (zMi 4 0 48 48 (fun _ _ => 0)) :: (zAi 0 48 (fun _ => 0)) :: (zAi 0 48 (fun _ => 0)) :: (eLs (nI 0) 0 (zq te)) :: (zH) :: (zO 4 [zr 12 0, zr 13 0, zr 14 0, zr 15 0, zr 17 0, zi 0, zi i0, zi i1, zi i2, zi i3, zi i4, zr 19 0, zr 20 0, zi i5]) :: (zAi 0 15 (fun _ => 0)) :: (zAi 0 15 (fun _ => 0)) :: (zAi 2 32768 (fun _ => 0)) :: (eFl 16 0 0 0) :: (zAi 0 24 (fun _ => 0)) :: (eNet 18 (nI 6) (nI 8)) :: (zAi 0 24 (fun _ => 0)) :: (zAi 0 6 (fun _ => 0)) :: (zAi 0 15 (fun _ => 0)) :: (zAi 0 0 (fun _ => 0)) :: (zO 6 mRaw24) :: (zAl 1 1 (fun _ => 0)) :: mArr
theorem wM24 (te : Nat) (i0 i1 i2 i3 i4 i5 : Int32) (i : Nat) : (wMid te i0 i1 i2 i3 i4 i5)[24 + i]? = mArr[i]? := by rw [Nat.add_comm]; rfl
theorem law_cell (te : Nat) (i0 i1 i2 i3 i4 i5 : Int32) : ∀ (p j : Nat) (c : zc), zat (wNew te i0 i1 i2 i3 i4 i5) p j = some c → ∃ c0, zat (wMid te i0 i1 i2 i3 i4 i5) (mG p j).1 (mG p j).2 = some c0 ∧ ∀ (cA : Nat → ClassId) (ad : Nat → Nat → Nat), zcc cA (fun p j => ad (mG p j).1 (mG p j).2) c = zcc cA ad c0
  | 0, 0, c, h => by cases h; exact ⟨_, rfl, fun cA ad => rfl⟩
  | 0, k + 1, c, h => by
    have h2 : (if k / 2 < 8 then (none : Option zc) else none) = some c := h
    split at h2 <;> cases h2
  | 1, 0, c, h => by cases h; exact ⟨_, rfl, fun cA ad => rfl⟩
  | 1, k + 1, c, h => by cases h
  | 2, 0, c, h => by cases h; exact ⟨_, rfl, fun cA ad => rfl⟩
  | 2, k + 1, c, h => by cases h
  | 3, 0, c, h => by cases h; exact ⟨_, rfl, fun cA ad => rfl⟩
  | 3, k + 1, c, h => by cases h
  | 4, 0, c, h => by cases h; exact ⟨_, rfl, fun cA ad => rfl⟩
  | 4, k + 1, c, h => by cases h
  | 5, 0, c, h => by cases h; exact ⟨_, rfl, fun cA ad => rfl⟩
  | 5, k + 1, c, h => by cases h
  | 6, 0, c, h => by cases h; exact ⟨_, rfl, fun cA ad => rfl⟩
  | 6, k + 1, c, h => by
    have h2 : (if k < 48 then (some (.inr (0, 48, .inl (fun _ => 0))) : Option zc) else none) = some c := h
    refine ⟨c, h, fun cA ad => ?_⟩
    split at h2
    · cases h2; rfl
    · cases h2
  | 7, 0, c, h => by cases h; exact ⟨_, rfl, fun cA ad => rfl⟩
  | 7, k + 1, c, h => by cases h
  | 8, 0, c, h => by cases h; exact ⟨_, rfl, fun cA ad => rfl⟩
  | 8, k + 1, c, h => by cases h
  | 9, 0, c, h => by cases h; exact ⟨_, rfl, fun cA ad => rfl⟩
  | 9, k + 1, c, h => by cases h
  | 10, k, c, h => by cases h
  | 11, 0, c, h => by cases h; exact ⟨_, rfl, fun cA ad => rfl⟩
  | 11, k + 1, c, h => by cases h
  | 12, 0, c, h => by cases h; exact ⟨_, rfl, fun cA ad => rfl⟩
  | 12, k + 1, c, h => by cases h
  | 13, 0, c, h => by cases h; exact ⟨_, rfl, fun cA ad => rfl⟩
  | 13, k + 1, c, h => by cases h
  | 14, 0, c, h => by cases h; exact ⟨_, rfl, fun cA ad => rfl⟩
  | 14, k + 1, c, h => by cases h
  | 15, 0, c, h => by cases h; exact ⟨_, rfl, fun cA ad => rfl⟩
  | 15, k + 1, c, h => by cases h
  | 16, 0, c, h => by cases h; exact ⟨_, rfl, fun cA ad => rfl⟩
  | 16, k + 1, c, h => by cases h
  | 17, 0, c, h => by cases h; exact ⟨_, rfl, fun cA ad => rfl⟩
  | 17, k + 1, c, h => by cases h
  | 18, 0, c, h => by cases h; exact ⟨_, rfl, fun cA ad => rfl⟩
  | 18, k + 1, c, h => by cases h
  | 19, 0, c, h => by cases h; exact ⟨_, rfl, fun cA ad => rfl⟩
  | 19, k + 1, c, h => by cases h
  | 20, 0, c, h => by cases h; exact ⟨_, rfl, fun cA ad => rfl⟩
  | 20, k + 1, c, h => by cases h
  | 21, 0, c, h => by cases h; exact ⟨_, rfl, fun cA ad => rfl⟩
  | 21, k + 1, c, h => by cases h
  | 22, 0, c, h => by cases h; exact ⟨.inl (6, mRaw24), rfl, fun cA ad => congrArg (fun z => (Sum.inr (6, z) : va_E)) (mG_fs ad)⟩
  | 22, k + 1, c, h => by obtain ⟨a, b⟩ := mG_ar k c h; exact ⟨c, (congrArg (fun z => Option.bind z (fun e => zcell (24 + mIx k) e 0)) (wM24 te i0 i1 i2 i3 i4 i5 (mIx k))).trans a, b⟩
  | 23, 0, c, h => by cases h; exact ⟨_, rfl, fun cA ad => rfl⟩
  | 23, k + 1, c, h => by cases h
  | p + 24, k, c, h => by cases h
theorem law_at (te : Nat) (i0 i1 i2 i3 i4 i5 : Int32) {p j : Nat} {c : zc} (h : zat (wNew te i0 i1 i2 i3 i4 i5) p j = some c) : p < 24 ∧ (p = 22 → j = 0 ∨ ∃ k, j = k + 1 ∧ k < 75 ∧ mIx k < 44) := by
  refine ⟨Nat.lt_of_not_le fun q => ?_, fun q => ?_⟩
  · obtain ⟨e, a, -⟩ := zat_e h
    rw [List.getElem?_eq_none (show (wNew te i0 i1 i2 i3 i4 i5).length ≤ p from q)] at a
    cases a
  · subst q
    rcases j with _ | k
    · exact Or.inl rfl
    · exact Or.inr ⟨k, rfl, mIx_lt k c h⟩
theorem mG_o {p j : Nat} (h : p ≠ 22) : mG p j = (p, j) := by unfold mG; rw [if_neg h]
/-- the reference as one entry, the slots as the pool -/
theorem z_toG {X : zX} {cc : ByteArray} {own : String} {ret : Option FieldType} {nL d mc ms : Nat} {L : List (Option zV)} {k n pc : Nat} (F : zFix X cc own ret nL d mc ms 1 true) (te : Nat) (i0 i1 i2 i3 i4 i5 : Int32) (hL : L.all (fun o => match o with | some (.inr q) => decide (q.2 = 0) | _ => true) = true) (kk : Z X L [] (wNew te i0 i1 i2 i3 i4 i5) k n pc) : Z X L [] (wMid te i0 i1 i2 i3 i4 i5) k n pc := by
  refine z_shift F mG (wNew te i0 i1 i2 i3 i4 i5) L [] (fun p j c h => law_cell te i0 i1 i2 i3 i4 i5 p j c h) (fun p j p' j' c c' a b he => ?_) (fun p j hp hq => absurd (hq (by omega)) (by decide)) rfl (fun ad i v h => ⟨v, h, ?_⟩) (fun ad => rfl) kk
  · obtain ⟨a1, a2⟩ := law_at te i0 i1 i2 i3 i4 i5 a
    obtain ⟨b1_, b2_⟩ := law_at te i0 i1 i2 i3 i4 i5 b
    by_cases q1 : p = 22
    · by_cases q2 : p' = 22
      · subst q1; subst q2
        refine ⟨rfl, ?_⟩
        rcases a2 rfl with e1 | ⟨u, e1, u1, u2⟩ <;> rcases b2_ rfl with e2 | ⟨v, e2, v1, v2⟩ <;> subst e1 <;> subst e2
        · rfl
        · have := (Prod.mk.inj he).1; have h9 : 22 = 24 + mIx v := this; omega
        · have := (Prod.mk.inj he).1; have h9 : 24 + mIx u = 22 := this; omega
        · have := (Prod.mk.inj he).1; have h9 : 24 + mIx u = 24 + mIx v := this
          rw [mIx_inj u u1 v v1 u2 (by omega)]
      · subst q1
        rw [mG_o q2] at he
        rcases a2 rfl with e1 | ⟨u, e1, u1, u2⟩ <;> subst e1
        · have := (Prod.mk.inj he).1; exact absurd this.symm q2
        · have := (Prod.mk.inj he).1; have h9 : 24 + mIx u = p' := this; omega
    · rw [mG_o q1] at he
      by_cases q2 : p' = 22
      · subst q2
        rcases b2_ rfl with e2 | ⟨v, e2, v1, v2⟩ <;> subst e2
        · exact absurd (Prod.mk.inj he).1 q1
        · have := (Prod.mk.inj he).1; have h9 : p = 24 + mIx v := this; omega
      · rw [mG_o q2] at he
        exact ⟨(Prod.mk.inj he).1, (Prod.mk.inj he).2⟩
  · have h2 := zall_get hL h
    rcases v with u | ⟨p, j⟩
    · rfl
    · have h3 : j = 0 := of_decide_eq_true h2
      subst h3
      show Value.ref _ = Value.ref _
      congr 1
      by_cases q : p = 22
      · subst q; rfl
      · show ad (mG p 0).1 (mG p 0).2 = ad p 0
        rw [mG_o q]
end RA9
end CA9
