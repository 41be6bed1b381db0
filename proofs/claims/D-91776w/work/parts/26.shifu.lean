/-! a net put into a slot, all else stays -/
section ZS1
variable {X : zX} {cc : ByteArray} {own : String} {ret : Option FieldType} {nL d mc ms nw : Nat} {np : Bool} {L : List (Option zV)} {S : List zV} {w : List zE} {k n pc : Nat}
def zokV (v : zV) : Bool := match v with
  | .inr q => (!(q.1 == 0) || q.2 == 0)
  | .inl _ => true
def zouV (o : Option zV) : Bool := match o with
  | some v => zokV v
  | none => true
def zwv (e : zE) : Prop := match e with
  | .inl o => o.2.all zokV = true
  | .inr (.inl a) => match a.2.2 with
    | .inr (.inr f) => ∀ i, zokV (f i) = true
    | _ => True
  | .inr (.inr (.inr (.inr (.inl _)))) => False
  | _ => True
def zwfv : List zE → Prop
  | [] => True
  | e :: w => zwv e ∧ zwfv w
theorem zwfv_mem : ∀ {w : List zE}, zwfv w → ∀ e ∈ w, zwv e
  | [], _, e, he => by cases he
  | a :: w, h, e, he => by
    rcases List.mem_cons.mp he with rfl | q
    · exact h.1
    · exact zwfv_mem h.2 e q
theorem zcv_v {ad ad' : Nat → Nat → Nat} (h : ∀ p j, (p = 0 → j = 0) → ad' p j = ad p j) {v : zV} (hv : zokV v = true) : zcv ad' v = zcv ad v := by
  cases v with
  | inl u => rfl
  | inr q =>
    simp only [zokV, Bool.or_eq_true, Bool.not_eq_true', beq_eq_false_iff_ne, beq_iff_eq] at hv
    simp only [zcv, h q.1 q.2 (fun e => by rcases hv with q | q; exact absurd e q; exact q)]
theorem zcell_v {p : Nat} {e : zE} {j : Nat} {c : zc} (hp0 : 0 < p) (he : zwv e) (hc : zcell p e j = some c) {cA : Nat → ClassId} {ad ad' : Nat → Nat → Nat} (h : ∀ p j, (p = 0 → j = 0) → ad' p j = ad p j) : zcc cA ad' c = zcc cA ad c := by
  have hpp : ∀ j, ad' p j = ad p j := fun j => h p j (fun q => by omega)
  rcases e with o | a | m' | b | q | u
  · simp only [zcell] at hc
    split at hc
    · cases hc
      simp only [zcc]
      congr 2
      exact List.map_congr_left fun v hv => zcv_v h (List.all_eq_true.mp (show o.2.all zokV = true from he) v hv)
    · cases hc
  · simp only [zcell] at hc
    split at hc
    · cases hc
      obtain ⟨t, n, f | f | f⟩ := a
      · rfl
      · rfl
      · simp only [zcc]
        have : ∀ i, zcv ad' (f i) = zcv ad (f i) := fun i => zcv_v h (he i)
        simp [this]
    · cases hc
  · obtain ⟨t, te, n, k, M⟩ := m'
    cases j with
    | zero =>
      simp only [zcell] at hc
      cases hc
      simp only [zcc, zcv, hpp]
    | succ i =>
      simp only [zcell] at hc
      split at hc
      · cases hc
        cases M <;> rfl
      · cases hc
  · cases j with
    | zero =>
      simp only [zcell] at hc
      cases hc
      simp only [zcc, List.map_map]
      congr 2
      refine List.map_congr_left fun k _ => ?_
      simp only [Function.comp, zmF]
      split
      · rfl
      · rfl
      · simp [zcv, hpp]
    | succ k =>
      simp only [zcell, zmA] at hc
      split at hc <;> first | (cases hc; rfl) | cases hc
  · exact he.elim
  · cases hc
/-- a net is put into a slot (what lay there is let go); where it lay, nothing is left -/
theorem z_unfocusH (F : zFix X cc own ret nL d mc ms nw np) (hnp : np = true) {R : Nat → zV} {P : Nat → Option (Int32 × Int32 × (Nat → Int32))} {wr : List zE} (s a b : Nat) {vn vd : Int32} {f : Nat → Int32} (hs : s < 8) (hR : R s = zr a 0) (ha : (zPl R P :: wr)[a]? = some (zO 5 [zi vn, zi vd, zr b 0])) (hb : (zPl R P :: wr)[b]? = some (zAi 0 24 f)) (ha0 : 0 < a) (hb0 : 0 < b) (w1 : List zE) (hw1 : w1 = (wr.set (a - 1) zH).set (b - 1) zH) (hnp2 : nw ≤ a ∧ nw ≤ b) (hwf : zwfv w1) (hwR : ∀ i, i ≠ s → zokV (R i) = true ∨ R i = zr 0 (2 * i + 1))
    (hL : L.all zouV = true) (hS : S.all zokV = true)
    (kk : Z X L S (zPl (zput R s (zr 0 (2 * s + 1))) (zput P s (some (vn, vd, f))) :: w1) k n pc) : Z X L S (zPl R P :: wr) k n pc := by
  have hag : ∀ (ad : Nat → Nat → Nat) (p j : Nat), (p = 0 → j = 0) → (fun p j => ad (if p = 0 ∧ j = 2 * s + 1 then (a, 0) else if p = 0 ∧ j = 2 * s + 2 then (b, 0) else (p, j)).1 (if p = 0 ∧ j = 2 * s + 1 then (a, 0) else if p = 0 ∧ j = 2 * s + 2 then (b, 0) else (p, j)).2) p j = ad p j := by
    intro ad p j h0
    have h1 : ¬ (p = 0 ∧ j = 2 * s + 1) := fun q => by have := h0 q.1; omega
    have h2 : ¬ (p = 0 ∧ j = 2 * s + 2) := fun q => by have := h0 q.1; omega
    simp only [h1, h2, if_false]
  have hls : ∀ p j c, zat (zPl (zput R s (zr 0 (2 * s + 1))) (zput P s (some (vn, vd, f))) :: w1) p j = some c → p ≠ a ∧ p ≠ b := by
    intro p j c h
    obtain ⟨e, a1, a2⟩ := zat_e h
    cases p with
    | zero => omega
    | succ p =>
      simp only [List.getElem?_cons_succ] at a1
      subst hw1
      constructor
      · rintro rfl
        rw [List.getElem?_set] at a1
        split at a1
        · split at a1
          · cases a1; cases a2
          · cases a1
        · rw [List.getElem?_set] at a1
          split at a1
          · split at a1
            · cases a1; cases a2
            · cases a1
          · omega
      · rintro rfl
        rw [List.getElem?_set] at a1
        split at a1
        · split at a1
          · cases a1; cases a2
          · cases a1
        · omega
  have hab : a ≠ b := by
    rintro rfl
    rw [ha] at hb
    cases hb
  refine z_shift F (fun p j => if p = 0 ∧ j = 2 * s + 1 then (a, 0) else if p = 0 ∧ j = 2 * s + 2 then (b, 0) else (p, j)) _ L S ?_ ?_ ?_ rfl ?_ ?_ kk
  · intro p j c h
    have hp := hls p j c h
    cases p with
    | zero =>
      cases j with
      | zero =>
        cases h
        refine ⟨.inr (7, 8, .inr (.inr R)), rfl, fun cA ad => ?_⟩
        simp only [zcc]
        congr 7
        funext i
        congr 1
        by_cases hi : i = s
        · subst hi
          simp [zput, hR, zcv]
        · simp only [zput, hi, if_false]
          rcases hwR i hi with q | q
          · exact zcv_v (hag ad) q
          · rw [q]
            have h1 : ¬ (2 * i = 2 * s + 1) := by omega
            have h2 : ¬ (2 * i = 2 * s) := by omega
            simp [zcv, h1, h2]
      | succ i =>
        by_cases e1 : i = 2 * s
        · subst e1
          simp only [zat, List.getElem?_cons_zero, Option.bind_some, zcell, show 2 * s / 2 = s by omega, hs, if_true, zput, show 2 * s % 2 = 0 by omega] at h
          cases h
          refine ⟨.inl (5, [zi vn, zi vd, zr b 0]), by simp [zat, ha, zcell], fun cA ad => by simp [zcc, zcv]⟩
        · by_cases e2 : i = 2 * s + 1
          · subst e2
            simp only [zat, List.getElem?_cons_zero, Option.bind_some, zcell, show (2 * s + 1) / 2 = s by omega, hs, if_true, zput, show (2 * s + 1) % 2 = 1 by omega] at h
            cases h
            refine ⟨.inr (0, 24, .inl f), by simp [zat, hb, zcell], fun cA ad => by simp [zcc]⟩
          · have hi2 : ¬ (i / 2 = s) := by omega
            have h1 : zat (zPl R P :: wr) 0 (i + 1) = some c := by
              simp only [zat, List.getElem?_cons_zero, Option.bind_some, zcell, zput, hi2, if_false] at h ⊢
              exact h
            refine ⟨c, by simpa [e1, e2] using h1, fun cA ad => ?_⟩
            simp only [zat, List.getElem?_cons_zero, Option.bind_some, zcell] at h1
            split at h1
            · split at h1
              · cases h1
              · split at h1
                · cases h1
                  have h3 : ¬ (i + 2 = 2 * s + 1) := by omega
                  have h4 : ¬ (i = 2 * s) := by omega
                  simp [zcc, zcv, h3, h4]
                · cases h1
                  rfl
            · cases h1
    | succ p =>
      obtain ⟨e, a1, a2⟩ := zat_e h
      simp at a1
      have a1' := a1
      have hp1 : p ≠ a - 1 := by omega
      have hp2 : p ≠ b - 1 := by omega
      rw [hw1, List.getElem?_set_ne (by omega), List.getElem?_set_ne (by omega)] at a1
      refine ⟨c, by simpa [zat, a1] using a2, fun cA ad => ?_⟩
      exact zcell_v (Nat.succ_pos p) (zwfv_mem hwf e (List.mem_of_getElem? a1')) a2 (hag ad)
  · intro p j p' j' c c' h h' he
    have hp := hls p j c h
    have hp' := hls p' j' c' h'
    by_cases e1 : p = 0 ∧ j = 2 * s + 1
    · by_cases f1 : p' = 0 ∧ j' = 2 * s + 1
      · omega
      · by_cases f2 : p' = 0 ∧ j' = 2 * s + 2
        · simp [e1, f1, f2] at he; omega
        · simp only [e1, f1, f2, if_true, if_false, and_self] at he
          cases he; omega
    · by_cases e2 : p = 0 ∧ j = 2 * s + 2
      · by_cases f1 : p' = 0 ∧ j' = 2 * s + 1
        · simp [e1, e2, f1] at he; omega
        · by_cases f2 : p' = 0 ∧ j' = 2 * s + 2
          · omega
          · rw [if_neg e1, if_pos e2, if_neg f1, if_neg f2] at he
            cases he; omega
      · by_cases f1 : p' = 0 ∧ j' = 2 * s + 1
        · rw [if_neg e1, if_neg e2, if_pos f1] at he
          cases he; omega
        · by_cases f2 : p' = 0 ∧ j' = 2 * s + 2
          · rw [if_neg e1, if_neg e2, if_neg f1, if_pos f2] at he
            cases he; omega
          · rw [if_neg e1, if_neg e2, if_neg f1, if_neg f2] at he
            cases he; exact ⟨rfl, rfl⟩
  · intro p j hp h0
    have h1 : ¬ (p = 0 ∧ j = 2 * s + 1) := fun q => by have := h0 q.1; rw [hnp] at this; cases this
    have h2 : ¬ (p = 0 ∧ j = 2 * s + 2) := fun q => by have := h0 q.1; rw [hnp] at this; cases this
    simp only [h1, h2, if_false]
  · intro ad i v h
    exact ⟨v, h, zcv_v (hag ad) (zall_get (P := zouV) hL h)⟩
  · intro ad
    exact List.map_congr_left fun v h => zcv_v (hag ad) (List.all_eq_true.mp hS v h)
end ZS1
