/-! thrown: a slot's net goes back, and the exception leaves -/
section ZS1
variable {X : zX} {cc : ByteArray} {own : String} {ret : Option FieldType} {nL d mc ms nw : Nat} {np : Bool} {L : List (Option zV)} {S : List zV} {w : List zE} {k n pc : Nat}
theorem zx_shift (F : zFix X cc own ret nL d mc ms nw np) (g : Nat → Nat → Nat × Nat) (w' : List zE) (L' : List (Option zV)) {Ex : String} {pe : Nat}
    (h1 : ∀ p j c, zat w' p j = some c → ∃ c0, zat w (g p j).1 (g p j).2 = some c0 ∧ ∀ cA ad, zcc cA (fun p j => ad (g p j).1 (g p j).2) c = zcc cA ad c0)
    (h2 : ∀ p j p' j' c c', zat w' p j = some c → zat w' p' j' = some c' → g p j = g p' j' → p = p' ∧ j = j')
    (h3 : ∀ p j, p < nw → (p = 0 → np = false) → g p j = (p, j))
    (hL : L'.length = L.length) (hL2 : ∀ (ad : Nat → Nat → Nat) (i : Nat) v, L'[i]? = some (some v) → ∃ v0, L[i]? = some (some v0) ∧ zcv (fun p j => ad (g p j).1 (g p j).2) v = zcv ad v0)
    (hpe : g pe 0 = (pe, 0))
    (kk : ZX X L' w' k n pc Ex pe) : ZX X L w k n pc Ex pe := fun ad H locs ls st ce h0 hR hI h4 h5 h6 h7 h8 => by
  have e1 : X.2.2.2.2.2.2.length = nw := F.2.2.2.2.2.2.2.2.2.2.2.1
  have e2 : zisP X.2.2.2.2.2.2 = np := F.2.2.2.2.2.2.2.2.2.2.2.2
  have := kk (fun p j => ad (g p j).1 (g p j).2) H locs ls st ce
    (fun p j hp hl => by
      have := h3 p j (by omega) (fun q => by rw [← e2]; exact hp q)
      show ad (g p j).1 (g p j).2 = _
      rw [this]
      exact h0 p j hp hl)
    (fun p j c hc => by
      obtain ⟨c0, a1, a2⟩ := h1 p j c hc
      rw [a2]
      exact hR _ _ _ a1)
    ⟨fun p j p' j' c c' a b he => by
      obtain ⟨c0, a1, -⟩ := h1 p j c a
      obtain ⟨c1, b1, -⟩ := h1 p' j' c' b
      have := hI.1 _ _ _ _ _ _ a1 b1 he
      exact h2 _ _ _ _ _ _ a b (Prod.ext this.1 this.2), fun p j c a => by
      obtain ⟨c0, a1, -⟩ := h1 p j c a
      exact hI.2 _ _ _ a1⟩ h4
    (by
      unfold zLh at h5 ⊢
      rw [hL]
      refine lv_mono h5 ?_
      rintro ⟨i, u⟩ hq
      obtain ⟨v, q1, rfl⟩ := zal_mem.mp hq
      obtain ⟨v0, b1, b2⟩ := hL2 ad i v q1
      exact zal_mem.mpr ⟨v0, b1, b2⟩) (by show H[ad (g pe 0).1 (g pe 0).2]? = _; rw [hpe]; exact h6) h7 h8
  simp only [hpe] at this
  exact this
theorem zwfu_zwf {m : Nat} : ∀ {w : List zE}, zwfu m w → zwf m w
  | [], _ => trivial
  | e :: w, h => by
    refine ⟨?_, zwfu_zwf h.2⟩
    have h1 := h.1
    have hv : ∀ v, zokU m v = true → zokN m v = true := fun v hv => by
      cases v with
      | inl u => rfl
      | inr q => simp only [zokU, Bool.and_eq_true] at hv; exact hv.1
    rcases e with o | a | m' | b | q | u
    · exact List.all_eq_true.mpr fun v hm => hv v (List.all_eq_true.mp (show o.2.all (zokU m) = true from h1) v hm)
    · obtain ⟨t, n, f | f | f⟩ := a
      · trivial
      · trivial
      · exact fun i => hv _ (h1 i)
    · trivial
    · trivial
    · exact h1.elim
    · trivial
theorem zx_leave (F : zFix X cc own ret nL d mc ms nw np) {post : Option zV → List zE → Prop} {xpost : String → List zE → Prop} (E : zEnd X post xpost mc ms) (hno : zNoH X) {Ex : String} {pe : Nat} (hpe : nw ≤ pe) (hm0 : 0 < nw) (w' : List zE) (hw' : w' = w.take nw) (hwf : zwf nw w') (hk : k ≤ mc) (hn : n ≤ ms) (hp : xpost Ex w') : ZX X L w k n pc Ex pe := by
  have hX : X.2.2.2.2.2.2.length = nw := F.2.2.2.2.2.2.2.2.2.2.2.1
  refine zx_shift F (fun p j => (p, j)) w (L.map fun _ => none) (fun p j c h => ⟨c, h, fun cA ad => rfl⟩) (fun p j p' j' c c' a b he => by cases he; exact ⟨rfl, rfl⟩) (fun p j _ _ => rfl) (by simp) (fun ad i v h => by simp at h) rfl ?_
  exact zx_cut hpe hm0 (by omega) w' hw' hwf (by simp [zoN]) (zx_out F E hno hk hn hp)
theorem zx_pub (F : zFix X cc own ret nL d mc ms nw np) (hnp : np = true) {post : Option zV → List zE → Prop} {xpost : String → List zE → Prop} (E : zEnd X post xpost mc ms) (hno : zNoH X) {P0 : zPt} {wr : List zE} (s a b : Nat) {vn vd : Int32} {f : Nat → Int32} {Ex : String} {pe : Nat} (hs : s < 8) (hP : P0 s = some (vn, vd, f)) (ha : (zPl (zput (pR P0) s (zr a 0)) (zput P0 s none) :: wr)[a]? = some (zO 5 [zi vn, zi vd, zr b 0])) (hb : (zPl (zput (pR P0) s (zr a 0)) (zput P0 s none) :: wr)[b]? = some (zAi 0 24 f)) (hma : nw ≤ a) (hmb : nw ≤ b) (hm0 : 0 < nw) (w1 : List zE) (hw1 : w1 = wr.take (nw - 1)) (hwf : zwfu nw w1) (hpe : nw ≤ pe) (hk : k ≤ mc) (hn : n ≤ ms) (hp : xpost Ex (zPl (pR P0) P0 :: w1)) :
    ZX X L (zPl (zput (pR P0) s (zr a 0)) (zput P0 s none) :: wr) k n pc Ex pe := by
  have hR : zput (pR P0) s (zr a 0) s = zr a 0 := zput_self
  have hwR : ∀ i, i ≠ s → zokU nw (zput (pR P0) s (zr a 0) i) = true ∨ zput (pR P0) s (zr a 0) i = zr 0 (2 * i + 1) := uOK
  have hl1 : w1.length ≤ nw - 1 := by rw [hw1]; exact List.length_take_le _ _
  have hX : X.2.2.2.2.2.2.length = nw := F.2.2.2.2.2.2.2.2.2.2.2.1
  have fin : ZX X (L.map fun _ => none) (zPl (zput (zput (pR P0) s (zr a 0)) s (zr 0 (2 * s + 1))) (zput (zput P0 s none) s (some (vn, vd, f))) :: w1) k n pc Ex pe := by
    rw [uPl2, zput_some hP]
    refine zx_cut hpe hm0 (by omega) (zPl (pR P0) P0 :: w1) (by rw [List.take_of_length_le]; simp; omega) ⟨pR_N P0 hm0, zwfu_zwf hwf⟩ (by simp [zoN]) ?_
    exact zx_out F E hno hk hn hp
  generalize zput (pR P0) s (zr a 0) = R at *
  generalize zput P0 s none = P at *
  have hag : ∀ (ad : Nat → Nat → Nat) (p j : Nat), p < nw → (p = 0 → j = 0) → (fun p j => ad (if p = 0 ∧ j = 2 * s + 1 then (a, 0) else if p = 0 ∧ j = 2 * s + 2 then (b, 0) else (p, j)).1 (if p = 0 ∧ j = 2 * s + 1 then (a, 0) else if p = 0 ∧ j = 2 * s + 2 then (b, 0) else (p, j)).2) p j = ad p j := by
    intro ad p j hp h0
    have h1 : ¬ (p = 0 ∧ j = 2 * s + 1) := fun q => by have := h0 q.1; omega
    have h2 : ¬ (p = 0 ∧ j = 2 * s + 2) := fun q => by have := h0 q.1; omega
    simp only [h1, h2, if_false]
  have hls : ∀ p j c, zat (zPl (zput R s (zr 0 (2 * s + 1))) (zput P s (some (vn, vd, f))) :: w1) p j = some c → p < nw := by
    intro p j c h
    have := zat_lt h
    subst hw1
    simp at this
    omega
  have hab : a ≠ b := by
    rintro rfl
    rw [ha] at hb
    cases hb
  refine zx_shift F (fun p j => if p = 0 ∧ j = 2 * s + 1 then (a, 0) else if p = 0 ∧ j = 2 * s + 2 then (b, 0) else (p, j)) (zPl (zput R s (zr 0 (2 * s + 1))) (zput P s (some (vn, vd, f))) :: w1) (L.map fun _ => none) ?_ ?_ ?_ (by simp) ?_ ?_ ?_
  · intro p j c h
    have hp := hls p j c h
    cases p with
    | zero =>
      cases j with
      | zero =>
        cases h
        refine ⟨.inr (7, 8, .inr (.inr R)), rfl, fun cA ad => ?_⟩
        simp only [zcc]
        congr 7
        funext i
        congr 1
        by_cases hi : i = s
        · subst hi
          simp [zput, hR, zcv]
        · simp only [zput, hi, if_false]
          rcases hwR i hi with q | q
          · exact zcv_u (hag ad) q
          · rw [q]
            have h1 : ¬ (2 * i = 2 * s + 1) := by omega
            have h2 : ¬ (2 * i = 2 * s) := by omega
            simp [zcv, h1, h2]
      | succ i =>
        by_cases e1 : i = 2 * s
        · subst e1
          simp only [zat, List.getElem?_cons_zero, Option.bind_some, zcell, show 2 * s / 2 = s by omega, hs, if_true, zput, show 2 * s % 2 = 0 by omega] at h
          cases h
          refine ⟨.inl (5, [zi vn, zi vd, zr b 0]), by simp [zat, ha, zcell], fun cA ad => by simp [zcc, zcv]⟩
        · by_cases e2 : i = 2 * s + 1
          · subst e2
            simp only [zat, List.getElem?_cons_zero, Option.bind_some, zcell, show (2 * s + 1) / 2 = s by omega, hs, if_true, zput, show (2 * s + 1) % 2 = 1 by omega] at h
            cases h
            refine ⟨.inr (0, 24, .inl f), by simp [zat, hb, zcell], fun cA ad => by simp [zcc]⟩
          · have hi2 : ¬ (i / 2 = s) := by omega
            have h1 : zat (zPl R P :: wr) 0 (i + 1) = some c := by
              simp only [zat, List.getElem?_cons_zero, Option.bind_some, zcell, zput, hi2, if_false] at h ⊢
              exact h
            refine ⟨c, by simpa [e1, e2] using h1, fun cA ad => ?_⟩
            simp only [zat, List.getElem?_cons_zero, Option.bind_some, zcell] at h1
            split at h1
            · split at h1
              · cases h1
              · split at h1
                · cases h1
                  have h3 : ¬ (i + 2 = 2 * s + 1) := by omega
                  have h4 : ¬ (i = 2 * s) := by omega
                  simp [zcc, zcv, h3, h4]
                · cases h1
                  rfl
            · cases h1
    | succ p =>
      obtain ⟨e, a1, a2⟩ := zat_e h
      simp at a1
      have a1' := a1
      rw [hw1, List.getElem?_take] at a1
      split at a1
      · refine ⟨c, by simpa [zat, a1] using a2, fun cA ad => ?_⟩
        exact zcell_u hp (Nat.succ_pos p) (zwfu_mem hwf e (List.mem_of_getElem? a1')) a2 (hag ad)
      · cases a1
  · intro p j p' j' c c' h h' he
    have hp := hls p j c h
    have hp' := hls p' j' c' h'
    by_cases e1 : p = 0 ∧ j = 2 * s + 1
    · by_cases f1 : p' = 0 ∧ j' = 2 * s + 1
      · omega
      · by_cases f2 : p' = 0 ∧ j' = 2 * s + 2
        · simp [e1, f1, f2] at he; omega
        · simp only [e1, f1, f2, if_true, if_false, and_self] at he
          cases he; omega
    · by_cases e2 : p = 0 ∧ j = 2 * s + 2
      · by_cases f1 : p' = 0 ∧ j' = 2 * s + 1
        · simp [e1, e2, f1] at he; omega
        · by_cases f2 : p' = 0 ∧ j' = 2 * s + 2
          · omega
          · rw [if_neg e1, if_pos e2, if_neg f1, if_neg f2] at he
            cases he; omega
      · by_cases f1 : p' = 0 ∧ j' = 2 * s + 1
        · rw [if_neg e1, if_neg e2, if_pos f1] at he
          cases he; omega
        · by_cases f2 : p' = 0 ∧ j' = 2 * s + 2
          · rw [if_neg e1, if_neg e2, if_neg f1, if_pos f2] at he
            cases he; omega
          · rw [if_neg e1, if_neg e2, if_neg f1, if_neg f2] at he
            cases he; exact ⟨rfl, rfl⟩
  · intro p j hp h0
    have h1 : ¬ (p = 0 ∧ j = 2 * s + 1) := fun q => by have := h0 q.1; rw [hnp] at this; cases this
    have h2 : ¬ (p = 0 ∧ j = 2 * s + 2) := fun q => by have := h0 q.1; rw [hnp] at this; cases this
    simp only [h1, h2, if_false]
  · intro ad i v h
    simp at h
  · have h1 : ¬ (pe = 0 ∧ (0 : Nat) = 2 * s + 1) := by omega
    have h2 : ¬ (pe = 0 ∧ (0 : Nat) = 2 * s + 2) := by omega
    simp only [h1, h2, if_false]
  · exact fin
end ZS1
