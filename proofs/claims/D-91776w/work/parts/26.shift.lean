/-! Shifts: the same heap, told by another world -/
def zput {α : Type} (f : Nat → α) (i : Nat) (x : α) : Nat → α := fun j => if j = i then x else f j
section ZS1
variable {X : zX} {cc : ByteArray} {own : String} {ret : Option FieldType} {nL d mc ms nw : Nat} {np : Bool} {L : List (Option zV)} {S : List zV} {w : List zE} {k n pc : Nat}
theorem z_shift (F : zFix X cc own ret nL d mc ms nw np) (g : Nat → Nat → Nat × Nat) (w' : List zE) (L' : List (Option zV)) (S' : List zV)
    (h1 : ∀ p j c, zat w' p j = some c → ∃ c0, zat w (g p j).1 (g p j).2 = some c0 ∧ ∀ cA ad, zcc cA (fun p j => ad (g p j).1 (g p j).2) c = zcc cA ad c0)
    (h2 : ∀ p j p' j' c c', zat w' p j = some c → zat w' p' j' = some c' → g p j = g p' j' → p = p' ∧ j = j')
    (h3 : ∀ p j, p < nw → (p = 0 → np = false) → g p j = (p, j))
    (hL : L'.length = L.length) (hL2 : ∀ (ad : Nat → Nat → Nat) (i : Nat) v, L'[i]? = some (some v) → ∃ v0, L[i]? = some (some v0) ∧ zcv (fun p j => ad (g p j).1 (g p j).2) v = zcv ad v0)
    (hS : ∀ ad, S'.map (zcv (fun p j => ad (g p j).1 (g p j).2)) = S.map (zcv ad))
    (kk : Z X L' S' w' k n pc) : Z X L S w k n pc := fun ad H locs ls h0 hR hI h4 h5 => by
  have e1 : X.2.2.2.2.2.2.length = nw := F.2.2.2.2.2.2.2.2.2.2.2.1
  have e2 : zisP X.2.2.2.2.2.2 = np := F.2.2.2.2.2.2.2.2.2.2.2.2
  have := kk (fun p j => ad (g p j).1 (g p j).2) H locs ls
    (fun p j hp hl => by
      have := h3 p j (by omega) (fun q => by rw [← e2]; exact hp q)
      show ad (g p j).1 (g p j).2 = _
      rw [this]
      exact h0 p j hp hl)
    (fun p j c hc => by
      obtain ⟨c0, a1, a2⟩ := h1 p j c hc
      rw [a2]
      exact hR _ _ _ a1)
    ⟨fun p j p' j' c c' a b he => by
      obtain ⟨c0, a1, -⟩ := h1 p j c a
      obtain ⟨c1, b1, -⟩ := h1 p' j' c' b
      have := hI.1 _ _ _ _ _ _ a1 b1 he
      exact h2 _ _ _ _ _ _ a b (Prod.ext this.1 this.2), fun p j c a => by
      obtain ⟨c0, a1, -⟩ := h1 p j c a
      exact hI.2 _ _ _ a1⟩ h4
    (by
      unfold zLh at h5 ⊢
      rw [hL]
      refine lv_mono h5 ?_
      rintro ⟨i, u⟩ hq
      obtain ⟨v, q1, rfl⟩ := zal_mem.mp hq
      obtain ⟨v0, b1, b2⟩ := hL2 ad i v q1
      exact zal_mem.mpr ⟨v0, b1, b2⟩)
  rw [hS] at this
  exact this
theorem zall_get {P : Option zV → Bool} {L : List (Option zV)} (h : L.all P = true) {i : Nat} {v : zV} (hv : L[i]? = some (some v)) : P (some v) = true := List.all_eq_true.mp h _ (List.mem_of_getElem? hv)
/-- what lies behind place m is let go -/
theorem z_take (F : zFix X cc own ret nL d mc ms nw np) (m : Nat) (w' : List zE) (hw' : w' = w.take m) (kk : Z X L S w' k n pc) : Z X L S w k n pc := by
  refine z_shift F (fun p j => (p, j)) w' L S (fun p j c h => ?_) (fun p j p' j' c c' a b he => by cases he; exact ⟨rfl, rfl⟩) (fun p j _ _ => rfl) rfl (fun ad i v h => ⟨v, h, rfl⟩) (fun ad => rfl) kk
  subst hw'
  obtain ⟨e, a1, a2⟩ := zat_e h
  rw [List.getElem?_take] at a1
  split at a1
  · exact ⟨c, by simp only [zat, a1]; exact a2, fun cA ad => rfl⟩
  · cases a1
/-- a slot's net is taken out -/
theorem z_focus (F : zFix X cc own ret nL d mc ms nw np) {R : Nat → zV} {P : Nat → Option (Int32 × Int32 × (Nat → Int32))} {w1 : List zE} (s : Nat) {x : Int32 × Int32 × (Nat → Int32)} (hs : s < 8) (hP : P s = some x) (hR : R s = zr 0 (2 * s + 1)) {N : Nat} (hN : N = w1.length + 1) (hnw : nw ≤ N) (hwf : zwf N w1) (hwR : ∀ i, zokN N (R i) = true)
    (L' : List (Option zV)) (S' : List zV) (hL : L = L'.map (Option.map (fun v => if v = zr N 0 then zr 0 (2 * s + 1) else v))) (hLL : L.all (zoN N) = true) (hS : S = S'.map (fun v => if v = zr N 0 then zr 0 (2 * s + 1) else v)) (hSS : S.all (zokN N) = true)
    (kk : Z X L' S' ((zPl (zput R s (zr N 0)) (zput P s none) :: w1) ++ [zO 5 [zi x.1, zi x.2.1, zr (N + 1) 0], zAi 0 24 x.2.2]) k n pc) : Z X L S (zPl R P :: w1) k n pc := by
  have hv : ∀ (v v' : zV), v = (if v' = zr N 0 then zr 0 (2 * s + 1) else v') → zokN N v = true → ∀ ad : Nat → Nat → Nat, zcv (fun p j => ad (if p = N then (0, 2 * s + 1) else if p = N + 1 then (0, 2 * s + 2) else (p, j)).1 (if p = N then (0, 2 * s + 1) else if p = N + 1 then (0, 2 * s + 2) else (p, j)).2) v' = zcv ad v := by
    intro v v' h1 h2 ad
    split at h1
    · rename_i h3; subst h3; subst h1; simp [zcv]
    · subst h1
      cases v with
      | inl u => rfl
      | inr q =>
        have : q.1 < N := by simpa [zokN, Nat.blt_eq] using h2
        simp [zcv, Nat.ne_of_lt this, Nat.ne_of_lt (Nat.lt_succ_of_lt this)]
  refine z_shift F (fun p j => if p = N then (0, 2 * s + 1) else if p = N + 1 then (0, 2 * s + 2) else (p, j)) _ L' S' ?_ ?_ ?_ (by rw [hL]; simp) ?_ ?_ kk
  · intro p j c h
    have h0 := zat_lt h
    by_cases e1 : p = N
    · subst e1
      obtain ⟨e, a1, a2⟩ := zat_e h
      rw [List.getElem?_append_right (by simp [hN])] at a1
      simp [hN] at a1
      subst a1
      simp only [zcell] at a2
      split at a2
      · cases a2
        refine ⟨.inl (5, [zi x.1, zi x.2.1, zr 0 (2 * s + 2)]), ?_, fun cA ad => ?_⟩
        · simp [zat, zcell, show 2 * s / 2 = s by omega, hs, hP, hN]
        · simp [zcc, zcv, hN]
      · cases a2
    · by_cases e2 : p = N + 1
      · subst e2
        obtain ⟨e, a1, a2⟩ := zat_e h
        rw [List.getElem?_append_right (by simp [hN])] at a1
        simp [hN] at a1
        subst a1
        simp only [zcell] at a2
        split at a2
        · cases a2
          refine ⟨.inr (0, 24, .inl x.2.2), ?_, fun cA ad => rfl⟩
          simp [zat, zcell, show (2 * s + 1) / 2 = s by omega, hs, hP, hN, show (2 * s + 1) % 2 = 1 by omega]
        · cases a2
      · have hlt : p < N := by simp at h0; omega
        obtain ⟨e, a1, a2⟩ := zat_e h
        rw [List.getElem?_append_left (by simp; omega)] at a1
        simp only [e1, e2, if_false]
        have hg : ∀ (ad : Nat → Nat → Nat) (p' j' : Nat), p' < N → (fun p j => ad (if p = N then (0, 2 * s + 1) else if p = N + 1 then (0, 2 * s + 2) else (p, j)).1 (if p = N then (0, 2 * s + 1) else if p = N + 1 then (0, 2 * s + 2) else (p, j)).2) p' j' = ad p' j' := fun ad p' j' h' => by
          simp [Nat.ne_of_lt h', Nat.ne_of_lt (Nat.lt_succ_of_lt h')]
        cases p with
        | zero =>
          cases a1
          cases j with
          | zero =>
            cases a2
            refine ⟨.inr (7, 8, .inr (.inr R)), rfl, fun cA ad => ?_⟩
            simp only [zcc]
            congr 7
            funext i
            congr 1
            by_cases hi : i = s
            · subst hi
              simp [zput, hR, zcv, zop]
            · simp only [zput, hi, if_false]
              rw [zcv_eq (N := N) (fun p j h' => hg ad p j h') (hwR i)]
          | succ i =>
            simp only [zcell] at a2
            split at a2
            · rename_i hi
              split at a2
              · cases a2
              · rename_i x' hx'
                by_cases hi2 : i / 2 = s
                · rw [hi2] at hx'; simp [zput] at hx'
                · simp only [zput, hi2, if_false] at hx'
                  have h1 : zat (zPl R P :: w1) 0 (i + 1) = some c := by
                    simp only [zat, List.getElem?_cons_zero, Option.bind_some, zcell, hi, if_true, hx']
                    exact a2
                  refine ⟨c, h1, fun cA ad => ?_⟩
                  split at a2
                  · cases a2
                    have : ¬ (0 = N) := by omega
                    simp [zcc, zcv, this]
                  · cases a2
                    rfl
            · cases a2
        | succ p =>
          simp at a1
          refine ⟨c, by simp only [zat, List.getElem?_cons_succ, a1]; exact a2, fun cA ad => ?_⟩
          exact zcell_p hlt (zwf_mem hwf e (List.mem_of_getElem? a1)) a2 (hg ad)
  · intro p j p' j' c c' a b he
    -- the cells at place 0 of the slot are gone
    have hno : ∀ j c, zat ((zPl (zput R s (zr N 0)) (zput P s none) :: w1) ++ [zO 5 [zi x.1, zi x.2.1, zr (N + 1) 0], zAi 0 24 x.2.2]) 0 j = some c → j ≠ 2 * s + 1 ∧ j ≠ 2 * s + 2 := by
      intro j c h
      constructor
      · rintro rfl
        simp [zat, zcell, show 2 * s / 2 = s by omega, zput] at h
      · rintro rfl
        simp [zat, zcell, show (2 * s + 1) / 2 = s by omega, zput] at h
    have hj : ∀ p j c, zat ((zPl (zput R s (zr N 0)) (zput P s none) :: w1) ++ [zO 5 [zi x.1, zi x.2.1, zr (N + 1) 0], zAi 0 24 x.2.2]) p j = some c → (p = N ∨ p = N + 1) → j = 0 := by
      intro p j c h hp
      obtain ⟨e, a1, a2⟩ := zat_e h
      rw [List.getElem?_append_right (by simp; omega)] at a1
      rcases hp with rfl | rfl
      · simp [hN] at a1; subst a1; simp only [zcell] at a2; split at a2
        · assumption
        · cases a2
      · simp [hN] at a1; subst a1; simp only [zcell] at a2; split at a2
        · assumption
        · cases a2
    by_cases e1 : p = N
    · have j0 := hj p j c a (Or.inl e1)
      by_cases f1 : p' = N
      · have := hj p' j' c' b (Or.inl f1); omega
      · by_cases f2 : p' = N + 1
        · simp [e1, f2] at he
        · simp [e1, f1, f2] at he
          obtain ⟨rfl, rfl⟩ := he
          exact absurd rfl (hno _ _ b).1
    · by_cases e2 : p = N + 1
      · have j0 := hj p j c a (Or.inr e2)
        by_cases f1 : p' = N
        · simp [f1, e2] at he
        · by_cases f2 : p' = N + 1
          · have := hj p' j' c' b (Or.inr f2); omega
          · simp [e2, f1, f2] at he
            obtain ⟨rfl, rfl⟩ := he
            exact absurd rfl (hno _ _ b).2
      · by_cases f1 : p' = N
        · simp [e1, e2, f1] at he
          obtain ⟨rfl, rfl⟩ := he
          exact absurd rfl (hno _ _ a).1
        · by_cases f2 : p' = N + 1
          · simp [e1, e2, f2] at he
            obtain ⟨rfl, rfl⟩ := he
            exact absurd rfl (hno _ _ a).2
          · simp [e1, e2, f1, f2] at he
            exact he
  · intro p j hp _
    have h1 : p ≠ N := by omega
    have h2 : p ≠ N + 1 := by omega
    simp [h1, h2]
  · intro ad i v h
    have h0 : L[i]? = some (some (if v = zr N 0 then zr 0 (2 * s + 1) else v)) := by rw [hL]; simp [h]
    exact ⟨_, h0, hv _ v rfl (zall_get (P := zoN N) hLL h0) ad⟩
  · intro ad
    subst hS
    rw [List.map_map]
    refine List.map_congr_left fun v h => ?_
    exact hv _ v rfl (List.all_eq_true.mp hSS _ (List.mem_map_of_mem h)) ad
def zokU (m : Nat) (v : zV) : Bool := match v with
  | .inr q => Nat.blt q.1 m && (!(q.1 == 0) || q.2 == 0)
  | .inl _ => true
def zouU (m : Nat) (o : Option zV) : Bool := match o with
  | some v => zokU m v
  | none => true
def zwu (m : Nat) (e : zE) : Prop := match e with
  | .inl o => o.2.all (zokU m) = true
  | .inr (.inl a) => match a.2.2 with
    | .inr (.inr f) => ∀ i, zokU m (f i) = true
    | _ => True
  | .inr (.inr (.inr (.inr (.inl _)))) => False
  | _ => True
def zwfu (m : Nat) : List zE → Prop
  | [] => True
  | e :: w => zwu m e ∧ zwfu m w
theorem zwfu_mem {N : Nat} : ∀ {w : List zE}, zwfu N w → ∀ e ∈ w, zwu N e
  | [], _, e, he => by cases he
  | a :: w, h, e, he => by
    rcases List.mem_cons.mp he with rfl | q
    · exact h.1
    · exact zwfu_mem h.2 e q
theorem zcv_u {m : Nat} {ad ad' : Nat → Nat → Nat} (h : ∀ p j, p < m → (p = 0 → j = 0) → ad' p j = ad p j) {v : zV} (hv : zokU m v = true) : zcv ad' v = zcv ad v := by
  cases v with
  | inl u => rfl
  | inr q =>
    simp only [zokU, Nat.blt_eq, Bool.and_eq_true, Bool.or_eq_true, Bool.not_eq_true', beq_eq_false_iff_ne, beq_iff_eq] at hv
    simp only [zcv, h q.1 q.2 hv.1 (fun e => by rcases hv.2 with q | q; exact absurd e q; exact q)]
theorem zcell_u {p : Nat} {e : zE} {j : Nat} {c : zc} {m : Nat} (hp : p < m) (hp0 : 0 < p) (he : zwu m e) (hc : zcell p e j = some c) {cA : Nat → ClassId} {ad ad' : Nat → Nat → Nat} (h : ∀ p j, p < m → (p = 0 → j = 0) → ad' p j = ad p j) : zcc cA ad' c = zcc cA ad c := by
  have hpp : ∀ j, ad' p j = ad p j := fun j => h p j hp (fun q => by omega)
  rcases e with o | a | m' | b | q | u
  · simp only [zcell] at hc
    split at hc
    · cases hc
      simp only [zcc]
      congr 2
      exact List.map_congr_left fun v hv => zcv_u h (List.all_eq_true.mp (show o.2.all (zokU m) = true from he) v hv)
    · cases hc
  · simp only [zcell] at hc
    split at hc
    · cases hc
      obtain ⟨t, n, f | f | f⟩ := a
      · rfl
      · rfl
      · simp only [zcc]
        have : ∀ i, zcv ad' (f i) = zcv ad (f i) := fun i => zcv_u h (he i)
        simp [this]
    · cases hc
  · obtain ⟨t, te, n, k, M⟩ := m'
    cases j with
    | zero =>
      simp only [zcell] at hc
      cases hc
      simp only [zcc, zcv, hpp]
    | succ i =>
      simp only [zcell] at hc
      split at hc
      · cases hc
        cases M <;> rfl
      · cases hc
  · cases j with
    | zero =>
      simp only [zcell] at hc
      cases hc
      simp only [zcc, List.map_map]
      congr 2
      refine List.map_congr_left fun k _ => ?_
      simp only [Function.comp, zmF]
      split
      · rfl
      · rfl
      · simp [zcv, hpp]
    | succ k =>
      simp only [zcell, zmA] at hc
      split at hc <;> first | (cases hc; rfl) | cases hc
  · exact he.elim
  · cases hc
/-- a net is put into a slot (what lay there is let go), and all from place m on is let go -/
theorem z_unfocus (F : zFix X cc own ret nL d mc ms nw np) (hnp : np = true) {R : Nat → zV} {P : Nat → Option (Int32 × Int32 × (Nat → Int32))} {wr : List zE} (s a b m : Nat) {vn vd : Int32} {f : Nat → Int32} (hs : s < 8) (hR : R s = zr a 0) (ha : (zPl R P :: wr)[a]? = some (zO 5 [zi vn, zi vd, zr b 0])) (hb : (zPl R P :: wr)[b]? = some (zAi 0 24 f)) (hma : m ≤ a) (hmb : m ≤ b) (hm0 : 0 < m) (hnw : nw ≤ m) (w1 : List zE) (hw1 : w1 = wr.take (m - 1)) (hwf : zwfu m w1) (hwR : ∀ i, i ≠ s → zokU m (R i) = true ∨ R i = zr 0 (2 * i + 1))
    (hL : L.all (zouU m) = true) (hS : S.all (zokU m) = true)
    (kk : Z X L S (zPl (zput R s (zr 0 (2 * s + 1))) (zput P s (some (vn, vd, f))) :: w1) k n pc) : Z X L S (zPl R P :: wr) k n pc := by
  have hag : ∀ (ad : Nat → Nat → Nat) (p j : Nat), p < m → (p = 0 → j = 0) → (fun p j => ad (if p = 0 ∧ j = 2 * s + 1 then (a, 0) else if p = 0 ∧ j = 2 * s + 2 then (b, 0) else (p, j)).1 (if p = 0 ∧ j = 2 * s + 1 then (a, 0) else if p = 0 ∧ j = 2 * s + 2 then (b, 0) else (p, j)).2) p j = ad p j := by
    intro ad p j hp h0
    have h1 : ¬ (p = 0 ∧ j = 2 * s + 1) := fun q => by have := h0 q.1; omega
    have h2 : ¬ (p = 0 ∧ j = 2 * s + 2) := fun q => by have := h0 q.1; omega
    simp only [h1, h2, if_false]
  have hls : ∀ p j c, zat (zPl (zput R s (zr 0 (2 * s + 1))) (zput P s (some (vn, vd, f))) :: w1) p j = some c → p < m := by
    intro p j c h
    have := zat_lt h
    subst hw1
    simp at this
    omega
  have hab : a ≠ b := by
    rintro rfl
    rw [ha] at hb
    cases hb
  refine z_shift F (fun p j => if p = 0 ∧ j = 2 * s + 1 then (a, 0) else if p = 0 ∧ j = 2 * s + 2 then (b, 0) else (p, j)) _ L S ?_ ?_ ?_ rfl ?_ ?_ kk
  · intro p j c h
    have hp := hls p j c h
    cases p with
    | zero =>
      cases j with
      | zero =>
        cases h
        refine ⟨.inr (7, 8, .inr (.inr R)), rfl, fun cA ad => ?_⟩
        simp only [zcc]
        congr 7
        funext i
        congr 1
        by_cases hi : i = s
        · subst hi
          simp [zput, hR, zcv]
        · simp only [zput, hi, if_false]
          rcases hwR i hi with q | q
          · exact zcv_u (hag ad) q
          · rw [q]
            have h1 : ¬ (2 * i = 2 * s + 1) := by omega
            have h2 : ¬ (2 * i = 2 * s) := by omega
            simp [zcv, h1, h2]
      | succ i =>
        by_cases e1 : i = 2 * s
        · subst e1
          simp only [zat, List.getElem?_cons_zero, Option.bind_some, zcell, show 2 * s / 2 = s by omega, hs, if_true, zput, show 2 * s % 2 = 0 by omega] at h
          cases h
          refine ⟨.inl (5, [zi vn, zi vd, zr b 0]), by simp [zat, ha, zcell], fun cA ad => by simp [zcc, zcv]⟩
        · by_cases e2 : i = 2 * s + 1
          · subst e2
            simp only [zat, List.getElem?_cons_zero, Option.bind_some, zcell, show (2 * s + 1) / 2 = s by omega, hs, if_true, zput, show (2 * s + 1) % 2 = 1 by omega] at h
            cases h
            refine ⟨.inr (0, 24, .inl f), by simp [zat, hb, zcell], fun cA ad => by simp [zcc]⟩
          · have hi2 : ¬ (i / 2 = s) := by omega
            have h1 : zat (zPl R P :: wr) 0 (i + 1) = some c := by
              simp only [zat, List.getElem?_cons_zero, Option.bind_some, zcell, zput, hi2, if_false] at h ⊢
              exact h
            refine ⟨c, by simpa [e1, e2] using h1, fun cA ad => ?_⟩
            simp only [zat, List.getElem?_cons_zero, Option.bind_some, zcell] at h1
            split at h1
            · split at h1
              · cases h1
              · split at h1
                · cases h1
                  have h3 : ¬ (i + 2 = 2 * s + 1) := by omega
                  have h4 : ¬ (i = 2 * s) := by omega
                  simp [zcc, zcv, h3, h4]
                · cases h1
                  rfl
            · cases h1
    | succ p =>
      obtain ⟨e, a1, a2⟩ := zat_e h
      simp at a1
      have a1' := a1
      rw [hw1, List.getElem?_take] at a1
      split at a1
      · refine ⟨c, by simpa [zat, a1] using a2, fun cA ad => ?_⟩
        exact zcell_u hp (Nat.succ_pos p) (zwfu_mem hwf e (List.mem_of_getElem? a1')) a2 (hag ad)
      · cases a1
  · intro p j p' j' c c' h h' he
    have hp := hls p j c h
    have hp' := hls p' j' c' h'
    by_cases e1 : p = 0 ∧ j = 2 * s + 1
    · by_cases f1 : p' = 0 ∧ j' = 2 * s + 1
      · omega
      · by_cases f2 : p' = 0 ∧ j' = 2 * s + 2
        · simp [e1, f1, f2] at he; omega
        · simp only [e1, f1, f2, if_true, if_false, and_self] at he
          cases he; omega
    · by_cases e2 : p = 0 ∧ j = 2 * s + 2
      · by_cases f1 : p' = 0 ∧ j' = 2 * s + 1
        · simp [e1, e2, f1] at he; omega
        · by_cases f2 : p' = 0 ∧ j' = 2 * s + 2
          · omega
          · rw [if_neg e1, if_pos e2, if_neg f1, if_neg f2] at he
            cases he; omega
      · by_cases f1 : p' = 0 ∧ j' = 2 * s + 1
        · rw [if_neg e1, if_neg e2, if_pos f1] at he
          cases he; omega
        · by_cases f2 : p' = 0 ∧ j' = 2 * s + 2
          · rw [if_neg e1, if_neg e2, if_neg f1, if_pos f2] at he
            cases he; omega
          · rw [if_neg e1, if_neg e2, if_neg f1, if_neg f2] at he
            cases he; exact ⟨rfl, rfl⟩
  · intro p j hp h0
    have h1 : ¬ (p = 0 ∧ j = 2 * s + 1) := fun q => by have := h0 q.1; rw [hnp] at this; cases this
    have h2 : ¬ (p = 0 ∧ j = 2 * s + 2) := fun q => by have := h0 q.1; rw [hnp] at this; cases this
    simp only [h1, h2, if_false]
  · intro ad i v h
    exact ⟨v, h, zcv_u (hag ad) (zall_get (P := zouU m) hL h)⟩
  · intro ad
    exact List.map_congr_left fun v h => zcv_u (hag ad) (List.all_eq_true.mp hS v h)
end ZS1
