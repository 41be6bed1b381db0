/-! the slots: what lies in the array, reading, storing -/
section ZPOOL
variable {X : zX} {cc : ByteArray} {own : String} {ret : Option FieldType} {nL d mc ms nw : Nat} {np : Bool} {L : List (Option zV)} {S : List zV} {w : List zE} {k n pc : Nat}
abbrev zPt : Type := Nat → Option (Int32 × Int32 × (Nat → Int32))
def pR (P : zPt) : Nat → zV := fun i => match P i with
  | none => zn
  | some _ => zr 0 (2 * i + 1)
theorem pR_none {P : zPt} {i : Nat} (h : P i = none) : pR P i = zn := by simp [pR, h]
theorem pR_some {P : zPt} {i : Nat} {x : Int32 × Int32 × (Nat → Int32)} (h : P i = some x) : pR P i = zr 0 (2 * i + 1) := by simp [pR, h]
theorem pR_put {P : zPt} {R : Nat → zV} {s : Nat} {x : Int32 × Int32 × (Nat → Int32)} (h : ∀ i, i ≠ s → R i = pR P i) : zput R s (zr 0 (2 * s + 1)) = pR (zput P s (some x)) := by
  funext i
  by_cases q : i = s
  · subst q; simp [zput, pR]
  · simp only [zput, pR, q, if_false]
    exact h i q
theorem zput_zput {α : Type} {f : Nat → α} {s : Nat} {a b : α} : zput (zput f s a) s b = zput f s b := by
  funext i; unfold zput; split <;> rfl
theorem zput_same {α : Type} {f : Nat → α} {s : Nat} {a : α} (h : f s = a) : zput f s a = f := by
  funext i; unfold zput; split
  · subst_vars; rfl
  · rfl
theorem zput_at {α : Type} {f : Nat → α} {s i : Nat} {a : α} : zput f s a i = if i = s then a else f i := rfl
theorem pR_ok (P : zPt) (i : Nat) : (∃ q, pR P i = .inr q) ∨ (∃ a, pR P i = .inl (.ref a)) ∨ pR P i = zn := by
  unfold pR; split
  · exact Or.inr (Or.inr rfl)
  · exact Or.inl ⟨_, rfl⟩
/-- what lies in a slot, read -/
theorem z_aaldP (F : zFix X cc own ret nL d mc ms nw np) {R : Nat → zV} {P : zPt} {j : Nat} {v : zV} (hj : j < 8) (hv : R j = v) (hr : (∃ q, v = .inr q) ∨ (∃ a, v = .inl (.ref a)) ∨ v = zn) (hd : decode cc pc = .ok (.aaload, 1)) (kk : Z X L (v :: S) (zPl R P :: w) k n (pc + 1)) : Z X L (zi (nI j) :: zr 0 0 :: S) (zPl R P :: w) k n pc := by
  subst hv
  refine z_aaldC F (t := 7) (N := 8) (f := R) (ty := .object "WiredNets$Net") (fun _ => rfl) rfl rfl (vp_in_nI hj (by omega)) ?_ hd ?_
  · rw [zcl_n (by omega)]; exact hr
  · rw [zcl_n (by omega)]; exact kk
/-- a net is put into the array -/
theorem z_aastP (F : zFix X cc own ret nL d mc ms nw np) {R : Nat → zV} {P : zPt} {j q : Nat} {fs : List zV} (hj : j < 8) (hq : zat (zPl R P :: w) q 0 = some (.inl (5, fs))) (hd : decode cc pc = .ok (.aastore, 1)) (kk : Z X L S (zPl (zput R j (zr q 0)) P :: w) k n (pc + 1)) : Z X L (zr q 0 :: zi (nI j) :: zr 0 0 :: S) (zPl R P :: w) k n pc := fun ad H locs ls h0 h1 h2 h3 h4 => by
  have ha := h1 0 0 (.inr (7, 8, .inr (.inr R))) rfl
  have hv := h1 q 0 _ hq
  have hK := F.2.2.2.2.1
  have hin : vp_in (nI j) 8 := vp_in_nI hj (by omega)
  have hlt : (nI j).toNatClampNeg < 8 := by rw [zcl_n (by omega)]; exact hj
  have hi0 : ¬ nI j < 0 := fun z => hin (Or.inl z)
  obtain ⟨r', hr', cellV, g1, g2, g3, -⟩ := hv
  have hcls := (hK.1 5 _ rfl).2
  obtain ⟨kA, comp, k1, k2, k3, -⟩ := (hK.2 7 _ rfl).2
  have hcomp : comp = X.2.2.1.1 5 := Option.some.inj (k3.symm.trans hcls.1)
  subst hcomp
  obtain ⟨kC, hkC, -⟩ := hcls.2
  refine W.aast F.1 F.2.1 ha (fun q h => by cases h) (fun h => by cases h) k1 k2 rfl hkC ⟨hi0, by show _ < (arrV _ _ _).slots.size; rw [arrV_size]; exact hlt⟩ g1 (fun q h => by rw [g3] at h; cases h) (by rw [g2]; exact hkC) (by rw [g2]; exact va_assign hcls) rfl rfl hd fun H1 e z oq => ?_
  have hu : zUpd (zPl R P :: w) 0 0 (.inr (7, 8, .inr (.inr (zput R j (zr q 0))))) (zPl (zput R j (zr q 0)) P :: w) :=
    zUpd_of (e := zPl R P) (e' := zPl (zput R j (zr q 0)) P) (c0 := .inr (7, 8, .inr (.inr R))) rfl rfl rfl (fun j' hj' => by
      cases j' with
      | zero => exact absurd rfl hj'
      | succ i => rfl)
  refine kk ad H1 _ ls h0 (hu.rel h2 h1 ?_ oq) (hu.inj h2) (h3.put z oq (h2.2 0 0 _ rfl)) h4
  show H1[ad 0 0]? = some (vp_cell _ _)
  rw [e]
  show some ((arrV (X.2.2.2.1 7) 8 (fun i => va_rf (zop (zcv ad (R i))))).setSlot (nI j).toNatClampNeg (.ref (ad q 0))) = some (arrV (X.2.2.2.1 7) 8 (fun i => va_rf (zop (zcv ad (zput R j (zr q 0) i)))))
  rw [arrV_store]
  congr 2
  funext i
  rw [zcl_n (by omega)]
  by_cases hi : i = j
  · subst hi
    simp [updV, zput, va_rf, zop, zcv]
  · simp [updV, zput, hi]
theorem zput_self {α : Type} {f : Nat → α} {s : Nat} {a : α} : zput f s a s = a := by simp [zput]
theorem pR_N (P : zPt) {N : Nat} (h : 0 < N) (i : Nat) : zokN N (pR P i) = true := by
  unfold pR; split
  · rfl
  · simp [zokN, Nat.blt_eq, h]
theorem pR_B (P : zPt) {N : Nat} (h : 0 < N) (i : Nat) : zokB false N (pR P i) = true := by
  unfold pR; split
  · rfl
  · simp [zokB, Nat.blt_eq, h]
theorem uR_B {P : zPt} {N s q : Nat} (h : 0 < N) (hq : q < N) (i : Nat) : zokB false N (zput (pR P) s (zr q 0) i) = true := by
  unfold zput; split
  · simp [zokB, Nat.blt_eq, hq]
  · exact pR_B P h i
theorem uR_N {P : zPt} {N s q : Nat} (h : 0 < N) (hq : q < N) (i : Nat) : zokN N (zput (pR P) s (zr q 0) i) = true := by
  unfold zput; split
  · simp [zokN, Nat.blt_eq, hq]
  · exact pR_N P h i
theorem pR_U (P : zPt) (m i : Nat) : zokU m (pR P i) = true ∨ pR P i = zr 0 (2 * i + 1) := by
  unfold pR; split
  · exact Or.inl rfl
  · exact Or.inr rfl
theorem pR_V (P : zPt) (i : Nat) : zokV (pR P i) = true ∨ pR P i = zr 0 (2 * i + 1) := by
  unfold pR; split
  · exact Or.inl rfl
  · exact Or.inr rfl
theorem uOK {P : zPt} {m s : Nat} {v : zV} (i : Nat) (h : i ≠ s) : zokU m (zput (pR P) s v i) = true ∨ zput (pR P) s v i = zr 0 (2 * i + 1) := by
  simp only [zput, h, if_false]; exact pR_U P m i
theorem uOV {P : zPt} {s : Nat} {v : zV} (i : Nat) (h : i ≠ s) : zokV (zput (pR P) s v i) = true ∨ zput (pR P) s v i = zr 0 (2 * i + 1) := by
  simp only [zput, h, if_false]; exact pR_V P i
theorem uPl1 {P : zPt} {s : Nat} {v : zV} {x : Int32 × Int32 × (Nat → Int32)} : zPl (zput (zput (pR P) s v) s (zr 0 (2 * s + 1))) (zput P s (some x)) = zPl (pR (zput P s (some x))) (zput P s (some x)) := by
  rw [zput_zput, pR_put (fun i _ => rfl)]
theorem uPl2 {P : zPt} {s : Nat} {v : zV} {x : Int32 × Int32 × (Nat → Int32)} : zPl (zput (zput (pR P) s v) s (zr 0 (2 * s + 1))) (zput (zput P s none) s (some x)) = zPl (pR (zput P s (some x))) (zput P s (some x)) := by
  rw [zput_zput, zput_zput, pR_put (fun i _ => rfl)]
theorem zput_some {P : zPt} {s : Nat} {x : Int32 × Int32 × (Nat → Int32)} (h : P s = some x) : zput P s (some x) = P := zput_same h
def zrl (N s : Nat) : List (Option zV) → List (Option zV) → Prop
  | o :: L, o' :: L' => (o' = o ∨ (o = some (zr 0 (2 * s + 1)) ∧ o' = some (zr N 0))) ∧ zrl N s L L'
  | [], [] => True
  | _, _ => False
def zrs (N s : Nat) : List zV → List zV → Prop
  | o :: L, o' :: L' => (o' = o ∨ (o = zr 0 (2 * s + 1) ∧ o' = zr N 0)) ∧ zrs N s L L'
  | [], [] => True
  | _, _ => False
theorem zne_N {N : Nat} {v : zV} (h : zokN N v = true) : v ≠ zr N 0 := by
  rintro rfl
  simp [zokN, Nat.blt_eq] at h
theorem zrl_map {N s : Nat} : ∀ {L L' : List (Option zV)}, zrl N s L L' → L.all (zoN N) = true → L = L'.map (Option.map (fun v => if v = zr N 0 then zr 0 (2 * s + 1) else v))
  | [], [], _, _ => rfl
  | o :: L, o' :: L', h, hL => by
    rw [List.all_cons, Bool.and_eq_true] at hL
    rw [List.map_cons, ← zrl_map h.2 hL.2]
    congr 1
    rcases h.1 with rfl | ⟨rfl, rfl⟩
    · cases o' with
      | none => rfl
      | some v => simp [zne_N (v := v) hL.1]
    · simp
  | [], _ :: _, h, _ => h.elim
  | _ :: _, [], h, _ => h.elim
theorem zrs_map {N s : Nat} : ∀ {L L' : List zV}, zrs N s L L' → L.all (zokN N) = true → L = L'.map (fun v => if v = zr N 0 then zr 0 (2 * s + 1) else v)
  | [], [], _, _ => rfl
  | o :: L, o' :: L', h, hL => by
    rw [List.all_cons, Bool.and_eq_true] at hL
    rw [List.map_cons, ← zrs_map h.2 hL.2]
    congr 1
    rcases h.1 with rfl | ⟨rfl, rfl⟩
    · simp [zne_N (v := o') hL.1]
    · simp
  | [], _ :: _, h, _ => h.elim
  | _ :: _, [], h, _ => h.elim
theorem uPl3 {P : zPt} {s : Nat} {v : zV} {x : Int32 × Int32 × (Nat → Int32)} (h : P s = some x) : zPl (zput (zput (pR P) s v) s (zr 0 (2 * s + 1))) (zput (zput P s none) s (some x)) = zPl (pR P) P := by
  rw [uPl2, zput_some h]
theorem z_foc (F : zFix X cc own ret nL d mc ms nw np) {P : zPt} {w1 : List zE} (s : Nat) {vn vd : Int32} {f : Nat → Int32} (hs : s < 8) (hP : P s = some (vn, vd, f)) {N M : Nat} (hN : N = w1.length + 1) (hM : M = N + 1) (hnw : nw ≤ N) (hwf : zwf N w1)
    {L' : List (Option zV)} {S' : List zV} (hL : zrl N s L L') (hLL : L.all (zoN N) = true) (hS : zrs N s S S') (hSS : S.all (zokN N) = true)
    (kk : Z X L' S' ((zPl (zput (pR P) s (zr N 0)) (zput P s none) :: w1) ++ [zO 5 [zi vn, zi vd, zr M 0], zAi 0 24 f]) k n pc) : Z X L S (zPl (pR P) P :: w1) k n pc := by
  subst hM
  exact z_focus F s hs hP (pR_some hP) hN hnw hwf (pR_N P (by omega)) L' S' (zrl_map hL hLL) hLL (zrs_map hS hSS) hSS kk
theorem zrnP {g : Nat → Nat} {P : zPt} (h : g 0 = 0) : zrnE g (zPl (pR P) P) = zPl (pR P) P := by
  simp only [zrnE]
  congr 6
  funext i
  unfold pR
  split
  · rfl
  · simp [zrn, h]
theorem zat_pool {R : Nat → zV} {P : zPt} {j : Nat} {vn vd : Int32} {f : Nat → Int32} (hj : j < 8) (hP : P j = some (vn, vd, f)) : zat (zPl R P :: w) 0 (2 * j + 1) = some (.inl (5, [zi vn, zi vd, zr 0 (2 * j + 2)])) := by
  simp [zat, zcell, show 2 * j / 2 = j by omega, hj, hP]
end ZPOOL
