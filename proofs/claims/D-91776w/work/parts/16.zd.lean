section ZD1
theorem zbk_at {σ : List Nat} {N : Nat} {w0 w1 w : List zE} (hN : w.length = N) (hl : σ.length = w0.length) (hlt : ∀ i p : Nat, σ[i]? = some p → p < N) {p j : Nat} {c : zc} (h : zat (zbk σ N w0 w1 0 w) p j = some c) :
    (∃ (i : Nat) (c1 : zc), p = zsg σ N i ∧ zat w1 i j = some c1 ∧ c = zrnC (zsg σ N) c1) ∨ (p < N ∧ zat w p j = some c ∧ ∃ e, w[p]? = some e ∧ zcell p e j = some c ∧ (zfind σ p = none ∨ ∃ i, zfind σ p = some i ∧ zisH (w0.getD i zH) = true)) := by
  obtain ⟨e, he, hc⟩ := zat_e h
  rw [zbk_get] at he
  by_cases hp : p < w.length
  · rw [if_pos hp, Nat.zero_add] at he
    have hw : w[p]? = some w[p] := List.getElem?_eq_getElem hp
    rw [hw, Option.map_some] at he
    cases hf : zfind σ p with
    | none =>
      rw [hf] at he
      cases he
      exact Or.inr ⟨by omega, by simp only [zat, hw]; exact hc, _, hw, hc, Or.inl rfl⟩
    | some i =>
      rw [hf] at he
      simp only at he
      cases hh : zisH (w0.getD i zH) with
      | true =>
        rw [hh] at he
        cases he
        exact Or.inr ⟨by omega, by simp only [zat, hw]; exact hc, _, hw, hc, Or.inr ⟨i, rfl, hh⟩⟩
      | false =>
        rw [hh] at he
        cases he
        have hs := zfind_some hf
        have hil : i < σ.length := (List.getElem?_eq_some_iff.mp hs).1
        have hg : zsg σ N i = p := by
          unfold zsg
          rw [if_pos hil, List.getD_eq_getElem?_getD, hs]; rfl
        simp only [cond_false] at hc
        rw [← hg, zcell_rn] at hc
        cases hz : zcell i (w1.getD i zH) j with
        | none => rw [hz] at hc; cases hc
        | some c1 =>
          rw [hz] at hc
          cases hc
          refine Or.inl ⟨i, c1, hg.symm, ?_, rfl⟩
          unfold zat
          rw [List.getD_eq_getElem?_getD] at hz
          cases hq : w1[i]? with
          | none => rw [hq] at hz; cases hz
          | some e1 => rw [hq] at hz; exact hz
  · rw [if_neg hp] at he
    cases hq : w1[σ.length + (p - w.length)]? with
    | none => rw [hq] at he; cases he
    | some e1 =>
      rw [hq] at he
      cases he
      have hg : zsg σ N (σ.length + (p - w.length)) = p := by
        unfold zsg
        rw [if_neg (by omega)]
        omega
      rw [← hg, zcell_rn] at hc
      cases hz : zcell (σ.length + (p - w.length)) e1 j with
      | none => rw [hz] at hc; cases hc
      | some c1 =>
        rw [hz] at hc
        cases hc
        exact Or.inl ⟨_, c1, hg.symm, by simp only [zat, hq]; exact hz, rfl⟩
/-- the placing behind a call -/
def zadb (σ : List Nat) (N : Nat) (ad ad1 : Nat → Nat → Nat) : Nat → Nat → Nat := fun q j => if q < N then (match zfind σ q with
  | some i => ad1 i j
  | none => ad q j) else ad1 (q - N + σ.length) j
def zadc (σ : List Nat) (N : Nat) (ad : Nat → Nat → Nat) : Nat → Nat → Nat := fun p j => ad (zsg σ N p) j
theorem zfind_nd : ∀ {σ : List Nat} {i q : Nat}, va_nd σ = true → σ[i]? = some q → zfind σ q = some i
  | [], i, q, _, h => by simp at h
  | a :: σ, i, q, hn, h => by
    simp only [va_nd, Bool.and_eq_true, decide_eq_true_eq] at hn
    unfold zfind
    cases i with
    | zero => cases h; simp
    | succ i =>
      have h' : σ[i]? = some q := by simpa using h
      have : a ≠ q := fun e => hn.1 (e ▸ List.mem_of_getElem? h')
      rw [if_neg this, zfind_nd hn.2 h']
      rfl
theorem zadb_sg {σ : List Nat} {N : Nat} {ad ad1 : Nat → Nat → Nat} (hn : va_nd σ = true) (hlt : ∀ i p : Nat, σ[i]? = some p → p < N) : ∀ p j, zadb σ N ad ad1 (zsg σ N p) j = ad1 p j := by
  intro p j
  unfold zsg
  by_cases hp : p < σ.length
  · rw [if_pos hp]
    have hs : σ[p]? = some (σ.getD p 0) := by rw [List.getD_eq_getElem?_getD, List.getElem?_eq_getElem hp]; rfl
    unfold zadb
    rw [if_pos (hlt _ _ hs), zfind_nd hn hs]
  · rw [if_neg hp]
    unfold zadb
    rw [if_neg (by omega)]
    congr 1
    omega
theorem zsg_inj {σ : List Nat} {N : Nat} (hn : va_nd σ = true) (hlt : ∀ i p : Nat, σ[i]? = some p → p < N) {a b : Nat} (h : zsg σ N a = zsg σ N b) : a = b := by
  unfold zsg at h
  by_cases ha : a < σ.length <;> by_cases hb : b < σ.length
  · rw [if_pos ha, if_pos hb] at h
    have h1 : σ[a]? = some (σ.getD a 0) := by rw [List.getD_eq_getElem?_getD, List.getElem?_eq_getElem ha]; rfl
    have h2 : σ[b]? = some (σ.getD a 0) := by rw [h, List.getD_eq_getElem?_getD, List.getElem?_eq_getElem hb]; rfl
    have := zfind_nd hn h1
    rw [zfind_nd hn h2] at this
    exact (Option.some.inj this).symm
  · rw [if_pos ha, if_neg hb] at h
    have h1 : σ[a]? = some (σ.getD a 0) := by rw [List.getD_eq_getElem?_getD, List.getElem?_eq_getElem ha]; rfl
    have := hlt _ _ h1
    omega
  · rw [if_neg ha, if_pos hb] at h
    have h1 : σ[b]? = some (σ.getD b 0) := by rw [List.getD_eq_getElem?_getD, List.getElem?_eq_getElem hb]; rfl
    have := hlt _ _ h1
    omega
  · rw [if_neg ha, if_neg hb] at h
    omega
/-- what a call rests on: the callee's world lies in the caller's -/
def zcall (σ : List Nat) (N : Nat) (w w0 : List zE) : Prop := w.length = N ∧ va_nd σ = true ∧ (σ.all (fun p => Nat.blt p N)) = true ∧ zsub σ N w σ w0
theorem zcall.lt {σ : List Nat} {N : Nat} {w w0 : List zE} (h : zcall σ N w w0) : ∀ i p : Nat, σ[i]? = some p → p < N := fun i p hi => by
  have := List.all_eq_true.mp h.2.2.1 p (List.mem_of_getElem? hi)
  simpa [Nat.blt_eq] using this
theorem zcall.at {σ : List Nat} {N : Nat} {w w0 : List zE} (h : zcall σ N w w0) {p j : Nat} {c : zc} (hc : zat w0 p j = some c) : zat w (zsg σ N p) j = some (zrnC (zsg σ N) c) ∧ σ[p]? = some (zsg σ N p) ∧ zisH (w0.getD p zH) = false := by
  obtain ⟨e, h1, h2⟩ := zat_e hc
  have hpl : p < w0.length := (List.getElem?_eq_some_iff.mp h1).1
  have hps : p < σ.length := by rw [zsub_len h.2.2.2]; exact hpl
  have hs : σ[p]? = some (zsg σ N p) := by unfold zsg; rw [if_pos hps, List.getD_eq_getElem?_getD, List.getElem?_eq_getElem hps]; rfl
  have hnh : zisH e = false := by
    rcases e with o | a | m | b | q | u <;> first | rfl | (cases h2)
  rcases zsub_get h.2.2.2 hs h1 with hh | hh
  · rw [hnh] at hh; cases hh
  · refine ⟨?_, hs, by rw [List.getD_eq_getElem?_getD, h1]; exact hnh⟩
    simp only [zat, hh, Option.bind_some, zcell_rn, h2, Option.map_some]
theorem zcall.rel {σ : List Nat} {N : Nat} {w w0 : List zE} (h : zcall σ N w w0) {D : va_G} {cA : Nat → ClassId} {ad : Nat → Nat → Nat} {H : Heap} (hR : zRel D cA ad w H) : zRel D cA (zadc σ N ad) w0 H := by
  intro p j c hc
  have := hR _ _ _ (h.at hc).1
  rw [zcc_rn (g := zsg σ N) (ad := zadc σ N ad) (fun _ _ => rfl)] at this
  exact this
theorem zcall.inj {σ : List Nat} {N : Nat} {w w0 : List zE} (h : zcall σ N w w0) {ad : Nat → Nat → Nat} {A B : Nat → Prop} (hI : zInj ad w A) (hB : ∀ q, A q → B q) : zInj (zadc σ N ad) w0 B := by
  refine ⟨fun p j p' j' c c' h1 h2 he => ?_, fun p j c h1 => hB _ (hI.2 _ _ _ (h.at h1).1)⟩
  obtain ⟨a, b⟩ := hI.1 _ _ _ _ _ _ (h.at h1).1 (h.at h2).1 he
  exact ⟨zsg_inj h.2.1 h.lt a, b⟩
theorem zcall.free {σ : List Nat} {N : Nat} {w w0 : List zE} (h : zcall σ N w w0) {ad : Nat → Nat → Nat} {A : Nat → Prop} {sz : Nat} (hI : zInj ad w A) (hA : ∀ q, sz ≤ q → A q) : ∀ q, zfr (zadc σ N ad) w0 sz q → A q := by
  rintro q (⟨p, j, c, h1, rfl⟩ | h1)
  · exact hI.2 _ _ _ (h.at h1).1
  · exact hA q h1
/-- BEHIND THE CALL: the caller's world with what the callee made of its part -/
theorem zcall.back {σ : List Nat} {N : Nat} {w w0 w1 : List zE} (h : zcall σ N w w0) {D : va_G} {cA : Nat → ClassId} {ad ad1 : Nat → Nat → Nat} {H H1 : Heap} {A : Nat → Prop} (hk : zkw σ w0 (zisP w0) N 0 w) (hs0 : σ[0]? = some 0) (hA : ∀ q, H.size ≤ q → A q)
    (hR : zRel D cA ad w H) (hI : zInj ad w A) (hag : zAg w0 (zadc σ N ad) ad1) (hR1 : zRel D cA ad1 w1 H1) (hI1 : zInj ad1 w1 (zfr (zadc σ N ad) w0 H.size)) (hH : ∀ q : Nat, q < H.size → ¬ zfr (zadc σ N ad) w0 H.size q → H1[q]? = H[q]?) :
    (∀ p j, p < N → (p = 0 → zisP w0 = false) → zadb σ N ad ad1 p j = ad p j) ∧ zRel D cA (zadb σ N ad ad1) (zbk σ N w0 w1 0 w) H1 ∧ zInj (zadb σ N ad ad1) (zbk σ N w0 w1 0 w) A := by
  have hl : σ.length = w0.length := zsub_len h.2.2.2
  have key : ∀ p j, p < N → (p = 0 → zisP w0 = false) → zadb σ N ad ad1 p j = ad p j := by
    intro p j hp hp0
    unfold zadb
    rw [if_pos hp]
    cases hf : zfind σ p with
    | none => rfl
    | some i =>
      have hs := zfind_some hf
      have hil : i < σ.length := (List.getElem?_eq_some_iff.mp hs).1
      have hg : zsg σ N i = p := by unfold zsg; rw [if_pos hil, List.getD_eq_getElem?_getD, hs]; rfl
      show ad1 i j = ad p j
      rw [hag i j (fun hi0 => hp0 (by subst hi0; rw [hs0] at hs; exact (Option.some.inj hs).symm)) (by omega)]
      show ad (zsg σ N i) j = ad p j
      rw [hg]
  have keep : ∀ p j c, p < N → zat w p j = some c → (zfind σ p = none ∨ ∃ i, zfind σ p = some i ∧ zisH (w0.getD i zH) = true) → ad p j < H.size ∧ ¬ zfr (zadc σ N ad) w0 H.size (ad p j) := by
    intro p j c hp hc hf
    refine ⟨(hR p j c hc).lt, ?_⟩
    rintro (⟨i, j', c', h1, h2⟩ | h1)
    · obtain ⟨a1, a2, a3⟩ := h.at h1
      obtain ⟨e1, e2⟩ := hI.1 _ _ _ _ _ _ hc a1 h2
      subst e1
      have := zfind_nd h.2.1 a2
      rcases hf with hf | ⟨i', hf, hf'⟩
      · rw [hf] at this; cases this
      · rw [hf] at this; cases this
        rw [hf'] at a3; cases a3
    · have := (hR p j c hc).lt
      omega
  have p0 : ∀ p e, p < N → w[p]? = some e → (zfind σ p = none ∨ ∃ i, zfind σ p = some i ∧ zisH (w0.getD i zH) = true) → p = 0 → zisP w0 = false := by
    rintro p e hp hw hf rfl
    have h0 : zfind σ 0 = some 0 := zfind_nd h.2.1 hs0
    rcases hf with hf | ⟨i, hf, hf'⟩
    · rw [h0] at hf; cases hf
    · rw [h0] at hf; cases hf
      cases w0 with
      | nil => rfl
      | cons e0 es =>
        simp only [List.getD_cons_zero] at hf'
        rcases e0 with o | a | m | b | q | u <;> first | rfl | cases hf'
  have zkeOf : ∀ p e, p < N → w[p]? = some e → (zfind σ p = none ∨ ∃ i, zfind σ p = some i ∧ zisH (w0.getD i zH) = true) → zke (zisP w0) N e := fun p e hp hw hf => by
    have := zkw_get hk hw
    rw [Nat.zero_add] at this
    rcases this with q | q
    · rcases hf with hf | ⟨i, hf, hf'⟩
      · simp [zhas, hf] at q
      · unfold zhas at q
        rw [hf] at q
        simp only [hf', Bool.not_true] at q
        cases q
    · exact q
  refine ⟨key, ?_, ?_⟩
  · intro p j c hc
    rcases zbk_at h.1 hl h.lt hc with ⟨i, c1, rfl, h1, rfl⟩ | ⟨hp, h1, e, he, hce, hf⟩
    · rw [zadb_sg h.2.1 h.lt, zcc_rn (zadb_sg h.2.1 h.lt)]
      exact hR1 _ _ _ h1
    · obtain ⟨k1, k2⟩ := keep p j c hp h1 hf
      rw [key p j hp (p0 p e hp he hf)]
      have hcc : zcc cA (zadb σ N ad ad1) c = zcc cA ad c := zcell_B hp (p0 p e hp he hf) (zkeOf p e hp he hf) hce key
      rw [hcc]
      exact (hR p j c h1).kept (hH _ k1 k2)
  · have loc : ∀ p j c, zat (zbk σ N w0 w1 0 w) p j = some c → (∃ i c1, p = zsg σ N i ∧ zat w1 i j = some c1 ∧ zadb σ N ad ad1 p j = ad1 i j) ∨ (p < N ∧ zat w p j = some c ∧ zadb σ N ad ad1 p j = ad p j ∧ ad p j < H.size ∧ ¬ zfr (zadc σ N ad) w0 H.size (ad p j)) := by
      intro p j c hc
      rcases zbk_at h.1 hl h.lt hc with ⟨i, c1, rfl, h1, rfl⟩ | ⟨hp, h1, e, he, hce, hf⟩
      · exact Or.inl ⟨i, c1, rfl, h1, zadb_sg h.2.1 h.lt _ _⟩
      · obtain ⟨k1, k2⟩ := keep p j c hp h1 hf
        exact Or.inr ⟨hp, h1, key p j hp (p0 p e hp he hf), k1, k2⟩
    refine ⟨fun p j p' j' c c' h1 h2 he => ?_, fun p j c h1 => ?_⟩
    · rcases loc _ _ _ h1 with ⟨i, c1, rfl, a1, a2⟩ | ⟨a0, a1, a2, a3, a4⟩ <;> rcases loc _ _ _ h2 with ⟨i', c2, rfl, b1, b2⟩ | ⟨b0, b1, b2, b3, b4⟩
      · rw [a2, b2] at he
        obtain ⟨rfl, rfl⟩ := hI1.1 _ _ _ _ _ _ a1 b1 he
        exact ⟨rfl, rfl⟩
      · rw [a2, b2] at he
        exact absurd (he ▸ hI1.2 _ _ _ a1) b4
      · rw [a2, b2] at he
        exact absurd (he.symm ▸ hI1.2 _ _ _ b1) a4
      · rw [a2, b2] at he
        exact hI.1 _ _ _ _ _ _ a1 b1 he
    · rcases loc _ _ _ h1 with ⟨i, c1, rfl, a1, a2⟩ | ⟨a0, a1, a2, a3, a4⟩
      · rw [a2]
        exact h.free hI hA _ (hI1.2 _ _ _ a1)
      · rw [a2]
        exact hI.2 _ _ _ a1
end ZD1
