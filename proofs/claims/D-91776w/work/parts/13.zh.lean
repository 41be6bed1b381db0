section ZH1
theorem zsing {D : va_G} {q : Nat × va_E} {H : Heap} (h : va_at D zcl q H) : va_P D zcl [q] H := by
  intro k x hk
  cases k with
  | zero => cases hk; exact h
  | succ k => simp at hk
/-- one cell is another one, all else stays -/
def zUpd (w : List zE) (p j : Nat) (c : zc) (w' : List zE) : Prop := (∃ c0, zat w p j = some c0) ∧ zat w' p j = some c ∧ ∀ p' j', ¬ (p' = p ∧ j' = j) → zat w' p' j' = zat w p' j'
theorem zUpd_of {w : List zE} {p j : Nat} {c c0 : zc} {e e' : zE} (hw : w[p]? = some e) (hz : zcell p e j = some c0) (hz' : zcell p e' j = some c) (hn : ∀ j', j' ≠ j → zcell p e' j' = zcell p e j') : zUpd w p j c (w.set p e') := by
  have hl := (List.getElem?_eq_some_iff.mp hw).1
  refine ⟨⟨c0, by simp [zat, hw, hz]⟩, by simp [zat, hl, hz'], fun p' j' h => ?_⟩
  by_cases hp : p' = p
  · subst hp
    have : j' ≠ j := fun q => h ⟨rfl, q⟩
    have h9 := (List.getElem?_eq_some_iff.mp hw).2
    simp [zat, hl, h9, hn j' this]
  · simp only [zat]
    rw [List.getElem?_set_ne (fun q => hp q.symm)]
theorem zUpd.dom {w w' : List zE} {p j : Nat} {c : zc} (h : zUpd w p j c w') {p' j' : Nat} {c' : zc} (hc : zat w' p' j' = some c') : ∃ c0, zat w p' j' = some c0 := by
  by_cases q : p' = p ∧ j' = j
  · obtain ⟨rfl, rfl⟩ := q
    exact h.1
  · exact ⟨c', by rw [← h.2.2 p' j' q]; exact hc⟩
theorem zUpd.inj {w w' : List zE} {p j : Nat} {c : zc} {ad : Nat → Nat → Nat} {A : Nat → Prop} (h : zUpd w p j c w') (hI : zInj ad w A) : zInj ad w' A := by
  refine ⟨fun p1 j1 p2 j2 c1 c2 h1 h2 he => ?_, fun p1 j1 c1 h1 => ?_⟩
  · obtain ⟨_, a1⟩ := h.dom h1
    obtain ⟨_, a2⟩ := h.dom h2
    exact hI.1 _ _ _ _ _ _ a1 a2 he
  · obtain ⟨_, a1⟩ := h.dom h1
    exact hI.2 _ _ _ a1
theorem zUpd.rel {w w' : List zE} {p j : Nat} {c : zc} {ad : Nat → Nat → Nat} {A : Nat → Prop} {D : va_G} {cA : Nat → ClassId} {H H1 : Heap} (h : zUpd w p j c w') (hI : zInj ad w A) (hR : zRel D cA ad w H) (hn : va_at D zcl (ad p j, zcc cA ad c) H1) (ho : ∀ q : Nat, q ≠ ad p j → H1[q]? = H[q]?) : zRel D cA ad w' H1 := by
  intro p' j' c' hc
  by_cases q : p' = p ∧ j' = j
  · obtain ⟨rfl, rfl⟩ := q
    rw [h.2.1] at hc
    cases hc
    exact hn
  · rw [h.2.2 p' j' q] at hc
    obtain ⟨c0, h0⟩ := h.1
    exact (hR p' j' c' hc).kept (ho _ (fun e => q (hI.1 _ _ _ _ _ _ hc h0 e)))
def zokN (N : Nat) (v : zV) : Bool := match v with
  | .inr q => Nat.blt q.1 N
  | .inl _ => true
def zoN (N : Nat) (o : Option zV) : Bool := match o with
  | some v => zokN N v
  | none => true
def zwe (N : Nat) (e : zE) : Prop := match e with
  | .inl o => o.2.all (zokN N) = true
  | .inr (.inl a) => match a.2.2 with
    | .inr (.inr f) => ∀ i, zokN N (f i) = true
    | _ => True
  | .inr (.inr (.inr (.inr (.inl q)))) => ∀ i, zokN N (q.1 i) = true
  | _ => True
def zwf (N : Nat) : List zE → Prop
  | [] => True
  | e :: w => zwe N e ∧ zwf N w
theorem zwf_mem {N : Nat} : ∀ {w : List zE}, zwf N w → ∀ e ∈ w, zwe N e
  | [], _, e, he => by cases he
  | a :: w, h, e, he => by
    rcases List.mem_cons.mp he with rfl | q
    · exact h.1
    · exact zwf_mem h.2 e q
/-- two placings that agree below N say the same of what lies below N -/
theorem zcv_eq {N : Nat} {ad ad' : Nat → Nat → Nat} (h : ∀ p j, p < N → ad' p j = ad p j) {v : zV} (hv : zokN N v = true) : zcv ad' v = zcv ad v := by
  cases v with
  | inl u => rfl
  | inr q => simp [zcv, h q.1 q.2 (by simpa [zokN, Nat.blt_eq] using hv)]
theorem zS_eq {N : Nat} {ad ad' : Nat → Nat → Nat} (h : ∀ p j, p < N → ad' p j = ad p j) {S : List zV} (hS : S.all (zokN N) = true) : S.map (zcv ad') = S.map (zcv ad) := List.map_congr_left fun v hv => zcv_eq h (List.all_eq_true.mp hS v hv)
theorem zfm {α β : Type} {f g : α → Option β} : ∀ {l : List α}, (∀ a ∈ l, f a = g a) → l.filterMap f = l.filterMap g
  | [], _ => rfl
  | a :: l, h => by simp only [List.filterMap_cons, h a List.mem_cons_self, zfm (fun b hb => h b (List.mem_cons_of_mem _ hb))]
theorem zal_eq {N : Nat} {ad ad' : Nat → Nat → Nat} (h : ∀ p j, p < N → ad' p j = ad p j) {L : List (Option zV)} (hL : L.all (zoN N) = true) : zal ad' L = zal ad L := by
  unfold zal
  refine zfm fun q hq => ?_
  obtain ⟨o, i⟩ := q
  have hm : o ∈ L := List.mem_of_getElem? (List.mem_zipIdx_iff_getElem?.mp hq)
  have := List.all_eq_true.mp hL o hm
  cases o with
  | none => rfl
  | some v => simp [zcv_eq h (v := v) this]
theorem zcell_p {p : Nat} {e : zE} {j : Nat} {c : zc} {N : Nat} (hp : p < N) (he : zwe N e) (hc : zcell p e j = some c) {cA : Nat → ClassId} {ad ad' : Nat → Nat → Nat} (h : ∀ p j, p < N → ad' p j = ad p j) : zcc cA ad' c = zcc cA ad c := by
  rcases e with o | a | m | b | q | u
  · simp only [zcell] at hc
    split at hc
    · cases hc
      simp only [zcc]
      rw [zS_eq h (show o.2.all (zokN N) = true from he)]
    · cases hc
  · simp only [zcell] at hc
    split at hc
    · cases hc
      obtain ⟨t, n, f | f | f⟩ := a
      · rfl
      · rfl
      · simp only [zcc]
        have : ∀ i, zcv ad' (f i) = zcv ad (f i) := fun i => zcv_eq h (he i)
        simp [this]
    · cases hc
  · obtain ⟨t, te, n, k, M⟩ := m
    cases j with
    | zero =>
      simp only [zcell] at hc
      cases hc
      simp only [zcc, zcv, h p _ hp]
    | succ i =>
      simp only [zcell] at hc
      split at hc
      · cases hc
        cases M <;> rfl
      · cases hc
  · cases j with
    | zero =>
      simp only [zcell] at hc
      cases hc
      simp only [zcc, List.map_map]
      congr 2
      refine List.map_congr_left fun k _ => ?_
      simp only [Function.comp, zmF]
      split
      · rfl
      · rfl
      · simp [zcv, h p _ hp]
    | succ k =>
      simp only [zcell, zmA] at hc
      split at hc <;> first | (cases hc; rfl) | cases hc
  · cases j with
    | zero =>
      simp only [zcell] at hc
      cases hc
      simp only [zcc]
      have : ∀ i, zcv ad' (q.1 i) = zcv ad (q.1 i) := fun i => zcv_eq h (he i)
      simp [this]
    | succ i =>
      simp only [zcell] at hc
      split at hc
      · split at hc
        · cases hc
        · split at hc
          · cases hc
            simp [zcc, zcv, h p _ hp]
          · cases hc
            rfl
      · cases hc
  · cases hc
/-- a new cell, at the world's end -/
def zad1 (ad : Nat → Nat → Nat) (N a : Nat) : Nat → Nat → Nat := fun p j => if p = N then a else ad p j
theorem zad1_lo {ad : Nat → Nat → Nat} {N a : Nat} : ∀ p j, p < N → zad1 ad N a p j = ad p j := fun p j h => by simp [zad1, Nat.ne_of_lt h]
theorem zat_app {w : List zE} {e : zE} {p j : Nat} {c : zc} (h : zat (w ++ [e]) p j = some c) : (p < w.length ∧ zat w p j = some c) ∨ (p = w.length ∧ zcell p e j = some c) := by
  unfold zat at h ⊢
  by_cases hl : p < w.length
  · rw [List.getElem?_append_left hl] at h
    exact Or.inl ⟨hl, h⟩
  · rw [List.getElem?_append_right (by omega)] at h
    cases hk : p - w.length with
    | zero =>
      rw [hk] at h
      exact Or.inr ⟨by omega, h⟩
    | succ k =>
      rw [hk] at h
      simp at h
theorem zat_lt {w : List zE} {p j : Nat} {c : zc} (h : zat w p j = some c) : p < w.length := by
  unfold zat at h
  cases hw : w[p]? with
  | none => rw [hw] at h; cases h
  | some e => exact (List.getElem?_eq_some_iff.mp hw).1
theorem zat_e {w : List zE} {p j : Nat} {c : zc} (h : zat w p j = some c) : ∃ e, w[p]? = some e ∧ zcell p e j = some c := by
  unfold zat at h
  cases hw : w[p]? with
  | none => rw [hw] at h; cases h
  | some e => rw [hw] at h; exact ⟨e, rfl, h⟩
theorem zRel.new {D : va_G} {cA : Nat → ClassId} {ad : Nat → Nat → Nat} {w : List zE} {H H1 : Heap} {e : zE} {c : zc} (hR : zRel D cA ad w H) (hw : zwf w.length w) (he : ∀ j c', zcell w.length e j = some c' → j = 0 ∧ c' = c) (hn : va_at D zcl (H.size, zcc cA (zad1 ad w.length H.size) c) H1) (ho : ∀ q : Nat, q < H.size → H1[q]? = H[q]?) : zRel D cA (zad1 ad w.length H.size) (w ++ [e]) H1 := by
  intro p j c' h
  rcases zat_app h with ⟨hl, h⟩ | ⟨rfl, h⟩
  · obtain ⟨e1, h1, h2⟩ := zat_e h
    rw [zad1_lo p j hl, zcell_p hl (zwf_mem hw e1 (List.mem_of_getElem? h1)) h2 zad1_lo]
    exact (hR p j c' h).kept (ho _ (hR p j c' h).lt)
  · obtain ⟨rfl, rfl⟩ := he j c' h
    simpa [zad1] using hn
theorem zInj.new {D : va_G} {cA : Nat → ClassId} {ad : Nat → Nat → Nat} {w : List zE} {H : Heap} {A : Nat → Prop} {e : zE} {c : zc} (hR : zRel D cA ad w H) (hI : zInj ad w A) (he : ∀ j c', zcell w.length e j = some c' → j = 0 ∧ c' = c) (hA : A H.size) : zInj (zad1 ad w.length H.size) (w ++ [e]) A := by
  have key : ∀ p j c', zat (w ++ [e]) p j = some c' → (p < w.length ∧ zat w p j = some c' ∧ zad1 ad w.length H.size p j = ad p j ∧ ad p j < H.size) ∨ (p = w.length ∧ j = 0 ∧ zad1 ad w.length H.size p j = H.size) := by
    intro p j c' h
    rcases zat_app h with ⟨hl, h⟩ | ⟨rfl, h⟩
    · exact Or.inl ⟨hl, h, zad1_lo p j hl, (hR p j c' h).lt⟩
    · exact Or.inr ⟨rfl, (he j c' h).1, by simp [zad1]⟩
  refine ⟨fun p j p' j' c1 c2 h1 h2 heq => ?_, fun p j c1 h1 => ?_⟩
  · rcases key _ _ _ h1 with ⟨a1, a2, a3, a4⟩ | ⟨a1, a2, a3⟩ <;> rcases key _ _ _ h2 with ⟨b1, b2, b3, b4⟩ | ⟨b1, b2, b3⟩
    · rw [a3, b3] at heq
      exact hI.1 _ _ _ _ _ _ a2 b2 heq
    · omega
    · omega
    · omega
  · rcases key _ _ _ h1 with ⟨a1, a2, a3, a4⟩ | ⟨a1, a2, a3⟩
    · rw [a3]; exact hI.2 _ _ _ a2
    · rw [a3]; exact hA
theorem zAg.new {w0 w : List zE} {ad0 ad : Nat → Nat → Nat} {a : Nat} (h : zAg w0 ad0 ad) (hl : w0.length ≤ w.length) : zAg w0 ad0 (zad1 ad w.length a) := by
  intro p j hp hlt
  rw [zad1_lo p j (by omega)]
  exact h p j hp hlt
end ZH1
